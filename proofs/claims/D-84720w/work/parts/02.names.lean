set_option maxRecDepth 100000
/-! GraftTrees -/
def RX1 : String := "GraftTrees"
def TX1 : u_T := fun k => match k with
  | 0 => ("GraftTrees", "heap", "LGraftTrees$Heap;", true)
  | 1 => ("GraftTrees", "forest", "LGraftTrees$Forest;", true)
  | 2 => ("GraftTrees", "shapes", "LGraftTrees$Shapes;", true)
  | 3 => ("GraftTrees", "codes", "LGraftTrees$Codes;", true)
  | 4 => ("GraftTrees", "parser", "LGraftTrees$Parser;", true)
  | 5 => ("GraftTrees", "machine", "LGraftTrees$Machine;", true)
  | 6 => ("GraftTrees", "tape", "[B", true)
  | 7 => ("GraftTrees", "fed", "I", false)
  | 8 => ("GraftTrees", "fault", "I", false)
  | _ => ("GraftTrees", "faultPlace", "I", false)
def tyX1 : Nat → FieldType := fun k => match k with
  | 0 => .object "GraftTrees$Heap"
  | 1 => .object "GraftTrees$Forest"
  | 2 => .object "GraftTrees$Shapes"
  | 3 => .object "GraftTrees$Codes"
  | 4 => .object "GraftTrees$Parser"
  | 5 => .object "GraftTrees$Machine"
  | 6 => .array .byte
  | 7 => .int
  | 8 => .int
  | _ => .int
abbrev wsX10 : List Cond := u_ws RX1 TX1 10
theorem nmX1 : ∀ a, a < 10 → ∀ b, b < 10 → a ≠ b → (TX1 a).2.1 ≠ (TX1 b).2.1 := by decide +kernel
theorem tyX1_ok : ∀ k, k < 10 → parseFieldDescriptor (TX1 k).2.2.1 = some (tyX1 k) := by decide +kernel
abbrev cX1_init : ByteArray := prog_1_method_1_code
def yX1_init : MethodName := ⟨RX1, "<init>", "(I)V"⟩
abbrev cX1_feed : ByteArray := prog_1_method_2_code
def yX1_feed : MethodName := ⟨RX1, "feed", "(IIIII)I"⟩
abbrev cX1_four : ByteArray := prog_1_method_3_code
def yX1_four : MethodName := ⟨RX1, "four", "(I)V"⟩
abbrev cX1_load : ByteArray := prog_1_method_4_code
def yX1_load : MethodName := ⟨RX1, "load", "(I)I"⟩
abbrev cX1_fault : ByteArray := prog_1_method_5_code
def yX1_fault : MethodName := ⟨RX1, "fault", "(I)I"⟩
abbrev cX1_start : ByteArray := prog_1_method_6_code
def yX1_start : MethodName := ⟨RX1, "start", "(JJ)Z"⟩
abbrev cX1_run : ByteArray := prog_1_method_7_code
def yX1_run : MethodName := ⟨RX1, "run", "(I)I"⟩
abbrev cX1_state : ByteArray := prog_1_method_8_code
def yX1_state : MethodName := ⟨RX1, "state", "()I"⟩
abbrev cX1_error : ByteArray := prog_1_method_9_code
def yX1_error : MethodName := ⟨RX1, "error", "(I)I"⟩
abbrev cX1_result : ByteArray := prog_1_method_10_code
def yX1_result : MethodName := ⟨RX1, "result", "(I)I"⟩
abbrev cX1_out : ByteArray := prog_1_method_11_code
def yX1_out : MethodName := ⟨RX1, "out", "(I)I"⟩
abbrev cX1_compile : ByteArray := prog_1_method_12_code
def yX1_compile : MethodName := ⟨RX1, "compile", "()I"⟩
abbrev cX1_root : ByteArray := prog_1_method_13_code
def yX1_root : MethodName := ⟨RX1, "root", "(II)I"⟩
abbrev cX1_node : ByteArray := prog_1_method_14_code
def yX1_node : MethodName := ⟨RX1, "node", "(III)I"⟩
abbrev cX1_shape : ByteArray := prog_1_method_15_code
def yX1_shape : MethodName := ⟨RX1, "shape", "(II)I"⟩
abbrev cX1_code : ByteArray := prog_1_method_16_code
def yX1_code : MethodName := ⟨RX1, "code", "(II)I"⟩
abbrev cX1_frame : ByteArray := prog_1_method_17_code
def yX1_frame : MethodName := ⟨RX1, "frame", "(II)I"⟩
abbrev cX1_total : ByteArray := prog_1_method_18_code
def yX1_total : MethodName := ⟨RX1, "total", "(I)I"⟩
theorem q227 : (Jvm.Cond.initialized "GraftTrees") ∈ lw_all := lw_g (lw_at lw_m1 1 rfl) rfl
theorem q250 : (Jvm.Cond.instantiable "GraftTrees" (10 : Nat)) ∈ lw_all := lw_g (lw_at lw_m1 24 rfl) rfl
theorem q252 : (Jvm.Cond.instanceMethod ({ cls := "GraftTrees", name := "<init>", desc := "(I)V" } : Jvm.MethodName)) ∈ lw_all := lw_g (lw_at lw_m1 26 rfl) rfl
theorem q253 : (Jvm.Cond.code ({ cls := "GraftTrees", name := "<init>", desc := "(I)V" } : Jvm.MethodName) prog_1_method_1_code (2 : Nat) (Option.none : Option Jvm.ClassFile.FieldType)) ∈ lw_all := lw_g (lw_at lw_m1 27 rfl) rfl
theorem q254 : (Jvm.Cond.methodLink "GraftTrees" (1 : Nat) ({ cls := "java/lang/Object", name := "<init>", desc := "()V" } : Jvm.MethodName)) ∈ lw_all := lw_g (lw_at lw_m1 28 rfl) rfl
theorem q257 : (Jvm.Cond.classLink "GraftTrees" (7 : Nat) "GraftTrees$Heap") ∈ lw_all := lw_g (lw_at lw_m1 31 rfl) rfl
theorem q259 : (Jvm.Cond.methodLinkNest "GraftTrees" (9 : Nat) ({ cls := "GraftTrees$Heap", name := "<init>", desc := "()V" } : Jvm.MethodName) "GraftTrees") ∈ lw_tbl := lw_at lw_m1 33 rfl
theorem q270 : (Jvm.Cond.fieldLinkNest "GraftTrees" (176 : Nat) "GraftTrees$Heap" "letters" "[B" "GraftTrees") ∈ lw_tbl := lw_at lw_m1 44 rfl
theorem q275 : (Jvm.Cond.fieldLinkNest "GraftTrees" (179 : Nat) "GraftTrees$Heap" "from" "[I" "GraftTrees") ∈ lw_tbl := lw_at lw_m1 49 rfl
theorem q280 : (Jvm.Cond.fieldLinkNest "GraftTrees" (173 : Nat) "GraftTrees$Heap" "size" "[I" "GraftTrees") ∈ lw_tbl := lw_at lw_m1 54 rfl
theorem q331 : (Jvm.Cond.classLink "GraftTrees" (16 : Nat) "GraftTrees$Forest") ∈ lw_all := lw_g (lw_at lw_m1 105 rfl) rfl
theorem q333 : (Jvm.Cond.methodLink "GraftTrees" (18 : Nat) ({ cls := "GraftTrees$Forest", name := "<init>", desc := "(LGraftTrees$Heap;)V" } : Jvm.MethodName)) ∈ lw_all := lw_g (lw_at lw_m1 107 rfl) rfl
theorem q468 : (Jvm.Cond.fieldLinkNest "GraftTrees" (205 : Nat) "GraftTrees$Forest" "kind" "[I" "GraftTrees") ∈ lw_tbl := lw_at lw_m2 2 rfl
theorem q471 : (Jvm.Cond.fieldLinkNest "GraftTrees" (211 : Nat) "GraftTrees$Forest" "token" "[I" "GraftTrees") ∈ lw_tbl := lw_at lw_m2 5 rfl
theorem q475 : (Jvm.Cond.fieldLinkNest "GraftTrees" (214 : Nat) "GraftTrees$Forest" "state" "[I" "GraftTrees") ∈ lw_tbl := lw_at lw_m2 9 rfl
theorem q478 : (Jvm.Cond.fieldLinkNest "GraftTrees" (201 : Nat) "GraftTrees$Forest" "changes" "[I" "GraftTrees") ∈ lw_tbl := lw_at lw_m2 12 rfl
theorem q480 : (Jvm.Cond.fieldLinkNest "GraftTrees" (219 : Nat) "GraftTrees$Forest" "local" "[I" "GraftTrees") ∈ lw_tbl := lw_at lw_m2 14 rfl
theorem q493 : (Jvm.Cond.fieldLinkNest "GraftTrees" (208 : Nat) "GraftTrees$Forest" "entries" "[I" "GraftTrees") ∈ lw_tbl := lw_at lw_m2 27 rfl
theorem q497 : (Jvm.Cond.fieldLinkNest "GraftTrees" (216 : Nat) "GraftTrees$Forest" "entry" "[I" "GraftTrees") ∈ lw_tbl := lw_at lw_m2 31 rfl
theorem q511 : (Jvm.Cond.fieldLinkNest "GraftTrees" (161 : Nat) "GraftTrees$Forest" "funName" "[I" "GraftTrees") ∈ lw_tbl := lw_at lw_m2 45 rfl
theorem q514 : (Jvm.Cond.fieldLinkNest "GraftTrees" (121 : Nat) "GraftTrees$Forest" "newest" "[I" "GraftTrees") ∈ lw_tbl := lw_at lw_m2 48 rfl
theorem q519 : (Jvm.Cond.fieldLinkNest "GraftTrees" (164 : Nat) "GraftTrees$Forest" "fun" "[I" "GraftTrees") ∈ lw_tbl := lw_at lw_m2 53 rfl
theorem q524 : (Jvm.Cond.fieldLinkNest "GraftTrees" (204 : Nat) "GraftTrees$Forest" "from" "[I" "GraftTrees") ∈ lw_tbl := lw_at lw_m2 58 rfl
theorem q527 : (Jvm.Cond.fieldLinkNest "GraftTrees" (182 : Nat) "GraftTrees$Forest" "count" "[I" "GraftTrees") ∈ lw_tbl := lw_at lw_m2 61 rfl
theorem q536 : (Jvm.Cond.fieldLinkNest "GraftTrees" (167 : Nat) "GraftTrees$Forest" "locals" "[I" "GraftTrees") ∈ lw_tbl := lw_at lw_m2 70 rfl
theorem q540 : (Jvm.Cond.fieldLinkNest "GraftTrees" (185 : Nat) "GraftTrees$Forest" "heat" "[I" "GraftTrees") ∈ lw_tbl := lw_at lw_m2 74 rfl
theorem q543 : (Jvm.Cond.fieldLinkNest "GraftTrees" (191 : Nat) "GraftTrees$Forest" "made" "[I" "GraftTrees") ∈ lw_tbl := lw_at lw_m2 77 rfl
theorem q546 : (Jvm.Cond.fieldLinkNest "GraftTrees" (188 : Nat) "GraftTrees$Forest" "valid" "[I" "GraftTrees") ∈ lw_tbl := lw_at lw_m2 80 rfl
theorem q551 : (Jvm.Cond.fieldLinkNest "GraftTrees" (112 : Nat) "GraftTrees$Forest" "roots" "I" "GraftTrees") ∈ lw_tbl := lw_at lw_m2 85 rfl
theorem q649 : (Jvm.Cond.classLink "GraftTrees" (25 : Nat) "GraftTrees$Shapes") ∈ lw_all := lw_g (lw_at lw_m2 183 rfl) rfl
theorem q651 : (Jvm.Cond.methodLink "GraftTrees" (27 : Nat) ({ cls := "GraftTrees$Shapes", name := "<init>", desc := "(LGraftTrees$Heap;)V" } : Jvm.MethodName)) ∈ lw_all := lw_g (lw_at lw_m2 185 rfl) rfl
theorem q662 : (Jvm.Cond.fieldLinkNest "GraftTrees" (230 : Nat) "GraftTrees$Shapes" "parent" "[I" "GraftTrees") ∈ lw_tbl := lw_at lw_m2 196 rfl
theorem q664 : (Jvm.Cond.fieldLinkNest "GraftTrees" (224 : Nat) "GraftTrees$Shapes" "name" "[I" "GraftTrees") ∈ lw_tbl := lw_at lw_m2 198 rfl
theorem q666 : (Jvm.Cond.fieldLinkNest "GraftTrees" (233 : Nat) "GraftTrees$Shapes" "sort" "[I" "GraftTrees") ∈ lw_tbl := lw_at lw_m2 200 rfl
theorem q668 : (Jvm.Cond.fieldLinkNest "GraftTrees" (235 : Nat) "GraftTrees$Shapes" "heir" "[I" "GraftTrees") ∈ lw_tbl := lw_at lw_m2 202 rfl
theorem q671 : (Jvm.Cond.fieldLinkNest "GraftTrees" (238 : Nat) "GraftTrees$Shapes" "many" "[I" "GraftTrees") ∈ lw_tbl := lw_at lw_m2 205 rfl
theorem q674 : (Jvm.Cond.fieldLinkNest "GraftTrees" (222 : Nat) "GraftTrees$Shapes" "count" "I" "GraftTrees") ∈ lw_tbl := lw_at lw_m2 208 rfl
theorem q676 : (Jvm.Cond.fieldLinkNest "GraftTrees" (228 : Nat) "GraftTrees$Shapes" "letters" "[B" "GraftTrees") ∈ lw_tbl := lw_at lw_m2 210 rfl
theorem q678 : (Jvm.Cond.fieldLinkNest "GraftTrees" (229 : Nat) "GraftTrees$Shapes" "from" "[I" "GraftTrees") ∈ lw_tbl := lw_at lw_m2 212 rfl
theorem q680 : (Jvm.Cond.fieldLinkNest "GraftTrees" (227 : Nat) "GraftTrees$Shapes" "size" "[I" "GraftTrees") ∈ lw_tbl := lw_at lw_m2 214 rfl
theorem q711 : (Jvm.Cond.classLink "GraftTrees" (32 : Nat) "GraftTrees$Codes") ∈ lw_all := lw_g (lw_at lw_m3 5 rfl) rfl
theorem q713 : (Jvm.Cond.methodLink "GraftTrees" (34 : Nat) ({ cls := "GraftTrees$Codes", name := "<init>", desc := "(LGraftTrees$Forest;)V" } : Jvm.MethodName)) ∈ lw_all := lw_g (lw_at lw_m3 7 rfl) rfl
theorem q720 : (Jvm.Cond.fieldLinkNest "GraftTrees" (251 : Nat) "GraftTrees$Codes" "root" "[I" "GraftTrees") ∈ lw_tbl := lw_at lw_m3 14 rfl
theorem q722 : (Jvm.Cond.fieldLinkNest "GraftTrees" (248 : Nat) "GraftTrees$Codes" "first" "[I" "GraftTrees") ∈ lw_tbl := lw_at lw_m3 16 rfl
theorem q724 : (Jvm.Cond.fieldLinkNest "GraftTrees" (242 : Nat) "GraftTrees$Codes" "units" "[I" "GraftTrees") ∈ lw_tbl := lw_at lw_m3 18 rfl
theorem q726 : (Jvm.Cond.fieldLinkNest "GraftTrees" (258 : Nat) "GraftTrees$Codes" "nodes" "[I" "GraftTrees") ∈ lw_tbl := lw_at lw_m3 20 rfl
theorem q728 : (Jvm.Cond.fieldLinkNest "GraftTrees" (261 : Nat) "GraftTrees$Codes" "guards" "[I" "GraftTrees") ∈ lw_tbl := lw_at lw_m3 22 rfl
theorem q731 : (Jvm.Cond.fieldLinkNest "GraftTrees" (264 : Nat) "GraftTrees$Codes" "entered" "[I" "GraftTrees") ∈ lw_tbl := lw_at lw_m3 25 rfl
theorem q734 : (Jvm.Cond.fieldLinkNest "GraftTrees" (267 : Nat) "GraftTrees$Codes" "exits" "[I" "GraftTrees") ∈ lw_tbl := lw_at lw_m3 28 rfl
theorem q737 : (Jvm.Cond.fieldLinkNest "GraftTrees" (270 : Nat) "GraftTrees$Codes" "falls" "[I" "GraftTrees") ∈ lw_tbl := lw_at lw_m3 31 rfl
theorem q740 : (Jvm.Cond.fieldLinkNest "GraftTrees" (254 : Nat) "GraftTrees$Codes" "isValid" "[Z" "GraftTrees") ∈ lw_tbl := lw_at lw_m3 34 rfl
theorem q742 : (Jvm.Cond.fieldLinkNest "GraftTrees" (241 : Nat) "GraftTrees$Codes" "count" "I" "GraftTrees") ∈ lw_tbl := lw_at lw_m3 36 rfl
theorem q746 : (Jvm.Cond.fieldLinkNest "GraftTrees" (245 : Nat) "GraftTrees$Codes" "unitRoot" "[I" "GraftTrees") ∈ lw_tbl := lw_at lw_m3 40 rfl
theorem q754 : (Jvm.Cond.fieldLinkNest "GraftTrees" (299 : Nat) "GraftTrees$Codes" "waits" "I" "GraftTrees") ∈ lw_tbl := lw_at lw_m3 48 rfl
theorem q797 : (Jvm.Cond.classLink "GraftTrees" (41 : Nat) "GraftTrees$Parser") ∈ lw_all := lw_g (lw_at lw_m3 91 rfl) rfl
theorem q799 : (Jvm.Cond.methodLinkNest "GraftTrees" (43 : Nat) ({ cls := "GraftTrees$Parser", name := "<init>", desc := "()V" } : Jvm.MethodName) "GraftTrees") ∈ lw_tbl := lw_at lw_m3 93 rfl
theorem q822 : (Jvm.Cond.fieldLinkNest "GraftTrees" (92 : Nat) "GraftTrees$Tokens" "fault" "I" "GraftTrees") ∈ lw_tbl := lw_at lw_m3 116 rfl
theorem q823 : (Jvm.Cond.fieldLinkNest "GraftTrees" (98 : Nat) "GraftTrees$Tokens" "faultPlace" "I" "GraftTrees") ∈ lw_tbl := lw_at lw_m3 117 rfl
theorem q847 : (Jvm.Cond.fieldLinkNest "GraftTrees" (88 : Nat) "GraftTrees$Parser" "t" "LGraftTrees$Tokens;" "GraftTrees") ∈ lw_tbl := lw_at lw_m3 141 rfl
theorem q881 : (Jvm.Cond.fieldLinkNest "GraftTrees" (105 : Nat) "GraftTrees$Parser" "functions" "I" "GraftTrees") ∈ lw_tbl := lw_at lw_m3 175 rfl
theorem q933 : (Jvm.Cond.classLink "GraftTrees" (56 : Nat) "GraftTrees$Machine") ∈ lw_all := lw_g (lw_at lw_m3 227 rfl) rfl
theorem q935 : (Jvm.Cond.methodLink "GraftTrees" (58 : Nat) ({ cls := "java/lang/Math", name := "min", desc := "(II)I" } : Jvm.MethodName)) ∈ lw_all := lw_g (lw_at lw_m3 229 rfl) rfl
theorem q938 : (Jvm.Cond.methodLink "GraftTrees" (64 : Nat) ({ cls := "java/lang/Math", name := "max", desc := "(II)I" } : Jvm.MethodName)) ∈ lw_all := lw_g (lw_at lw_m3 232 rfl) rfl
theorem q941 : (Jvm.Cond.methodLink "GraftTrees" (67 : Nat) ({ cls := "GraftTrees$Machine", name := "<init>", desc := "(LGraftTrees$Heap;LGraftTrees$Forest;LGraftTrees$Shapes;LGraftTrees$Codes;LGraftTrees$Parser;I)V" } : Jvm.MethodName)) ∈ lw_all := lw_g (lw_at lw_m3 235 rfl) rfl
theorem q957 : (Jvm.Cond.fieldLinkNest "GraftTrees" (275 : Nat) "GraftTrees$Machine" "rootOf" "[I" "GraftTrees") ∈ lw_tbl := lw_at lw_m4 11 rfl
theorem q961 : (Jvm.Cond.fieldLinkNest "GraftTrees" (281 : Nat) "GraftTrees$Machine" "codeOf" "[I" "GraftTrees") ∈ lw_tbl := lw_at lw_m4 15 rfl
theorem q963 : (Jvm.Cond.fieldLinkNest "GraftTrees" (284 : Nat) "GraftTrees$Machine" "unitOf" "[I" "GraftTrees") ∈ lw_tbl := lw_at lw_m4 17 rfl
theorem q966 : (Jvm.Cond.fieldLinkNest "GraftTrees" (287 : Nat) "GraftTrees$Machine" "isInlined" "[Z" "GraftTrees") ∈ lw_tbl := lw_at lw_m4 20 rfl
theorem q969 : (Jvm.Cond.fieldLinkNest "GraftTrees" (278 : Nat) "GraftTrees$Machine" "tag" "[I" "GraftTrees") ∈ lw_tbl := lw_at lw_m4 23 rfl
theorem q972 : (Jvm.Cond.fieldLinkNest "GraftTrees" (273 : Nat) "GraftTrees$Machine" "many" "I" "GraftTrees") ∈ lw_tbl := lw_at lw_m4 26 rfl
theorem q974 : (Jvm.Cond.fieldLinkNest "GraftTrees" (293 : Nat) "GraftTrees$Machine" "most" "I" "GraftTrees") ∈ lw_tbl := lw_at lw_m4 28 rfl
theorem q978 : (Jvm.Cond.fieldLinkNest "GraftTrees" (133 : Nat) "GraftTrees$Machine" "state" "I" "GraftTrees") ∈ lw_tbl := lw_at lw_m4 32 rfl
theorem q980 : (Jvm.Cond.fieldLinkNest "GraftTrees" (290 : Nat) "GraftTrees$Machine" "steps" "I" "GraftTrees") ∈ lw_tbl := lw_at lw_m4 34 rfl
theorem q982 : (Jvm.Cond.fieldLinkNest "GraftTrees" (136 : Nat) "GraftTrees$Machine" "error" "I" "GraftTrees") ∈ lw_tbl := lw_at lw_m4 36 rfl
theorem q984 : (Jvm.Cond.fieldLinkNest "GraftTrees" (139 : Nat) "GraftTrees$Machine" "errorRoot" "I" "GraftTrees") ∈ lw_tbl := lw_at lw_m4 38 rfl
theorem q986 : (Jvm.Cond.fieldLinkNest "GraftTrees" (142 : Nat) "GraftTrees$Machine" "errorNode" "I" "GraftTrees") ∈ lw_tbl := lw_at lw_m4 40 rfl
theorem q991 : (Jvm.Cond.fieldLinkNest "GraftTrees" (296 : Nat) "GraftTrees$Machine" "objects" "I" "GraftTrees") ∈ lw_tbl := lw_at lw_m4 45 rfl
theorem q993 : (Jvm.Cond.fieldLinkNest "GraftTrees" (154 : Nat) "GraftTrees$Machine" "out" "[B" "GraftTrees") ∈ lw_tbl := lw_at lw_m4 47 rfl
theorem q995 : (Jvm.Cond.fieldLinkNest "GraftTrees" (148 : Nat) "GraftTrees$Machine" "result" "[B" "GraftTrees") ∈ lw_tbl := lw_at lw_m4 49 rfl
theorem q997 : (Jvm.Cond.fieldLinkNest "GraftTrees" (151 : Nat) "GraftTrees$Machine" "said" "I" "GraftTrees") ∈ lw_tbl := lw_at lw_m4 51 rfl
theorem q999 : (Jvm.Cond.fieldLinkNest "GraftTrees" (145 : Nat) "GraftTrees$Machine" "results" "I" "GraftTrees") ∈ lw_tbl := lw_at lw_m4 53 rfl
theorem q1001 : (Jvm.Cond.fieldLinkNest "GraftTrees" (302 : Nat) "GraftTrees$Machine" "changes" "I" "GraftTrees") ∈ lw_tbl := lw_at lw_m4 55 rfl
theorem q1003 : (Jvm.Cond.fieldLinkNest "GraftTrees" (304 : Nat) "GraftTrees$Machine" "entered" "I" "GraftTrees") ∈ lw_tbl := lw_at lw_m4 57 rfl
theorem q1005 : (Jvm.Cond.fieldLinkNest "GraftTrees" (306 : Nat) "GraftTrees$Machine" "exits" "I" "GraftTrees") ∈ lw_tbl := lw_at lw_m4 59 rfl
theorem q1007 : (Jvm.Cond.fieldLinkNest "GraftTrees" (308 : Nat) "GraftTrees$Machine" "falls" "I" "GraftTrees") ∈ lw_tbl := lw_at lw_m4 61 rfl
theorem q1009 : (Jvm.Cond.fieldLinkNest "GraftTrees" (310 : Nat) "GraftTrees$Machine" "moves" "I" "GraftTrees") ∈ lw_tbl := lw_at lw_m4 63 rfl
theorem q1011 : (Jvm.Cond.fieldLinkNest "GraftTrees" (313 : Nat) "GraftTrees$Machine" "calls" "I" "GraftTrees") ∈ lw_tbl := lw_at lw_m4 65 rfl
theorem q1013 : (Jvm.Cond.fieldLinkNest "GraftTrees" (316 : Nat) "GraftTrees$Machine" "inlined" "I" "GraftTrees") ∈ lw_tbl := lw_at lw_m4 67 rfl
theorem q1116 : (Jvm.Cond.methodLink "GraftTrees" (74 : Nat) ({ cls := "GraftTrees$Machine", name := "clear", desc := "()V" } : Jvm.MethodName)) ∈ lw_all := lw_g (lw_at lw_m4 170 rfl) rfl
theorem q1125 : (Jvm.Cond.fieldLink "GraftTrees" (10 : Nat) "GraftTrees" "heap" "LGraftTrees$Heap;") ∈ lw_all := lw_g (lw_at lw_m4 179 rfl) rfl
theorem q1126 : (Jvm.Cond.fieldLink "GraftTrees" (21 : Nat) "GraftTrees" "forest" "LGraftTrees$Forest;") ∈ lw_all := lw_g (lw_at lw_m4 180 rfl) rfl
theorem q1127 : (Jvm.Cond.fieldLink "GraftTrees" (28 : Nat) "GraftTrees" "shapes" "LGraftTrees$Shapes;") ∈ lw_all := lw_g (lw_at lw_m4 181 rfl) rfl
theorem q1128 : (Jvm.Cond.fieldLink "GraftTrees" (37 : Nat) "GraftTrees" "codes" "LGraftTrees$Codes;") ∈ lw_all := lw_g (lw_at lw_m4 182 rfl) rfl
theorem q1129 : (Jvm.Cond.fieldLink "GraftTrees" (44 : Nat) "GraftTrees" "parser" "LGraftTrees$Parser;") ∈ lw_all := lw_g (lw_at lw_m4 183 rfl) rfl
theorem q1130 : (Jvm.Cond.fieldLink "GraftTrees" (70 : Nat) "GraftTrees" "machine" "LGraftTrees$Machine;") ∈ lw_all := lw_g (lw_at lw_m4 184 rfl) rfl
theorem q1131 : (Jvm.Cond.fieldLink "GraftTrees" (48 : Nat) "GraftTrees" "tape" "[B") ∈ lw_all := lw_g (lw_at lw_m4 185 rfl) rfl
theorem q1132 : (Jvm.Cond.fieldLink "GraftTrees" (77 : Nat) "GraftTrees" "fed" "I") ∈ lw_all := lw_g (lw_at lw_m4 186 rfl) rfl
theorem q1133 : (Jvm.Cond.fieldLink "GraftTrees" (97 : Nat) "GraftTrees" "fault" "I") ∈ lw_all := lw_g (lw_at lw_m4 187 rfl) rfl
theorem q1134 : (Jvm.Cond.fieldLink "GraftTrees" (52 : Nat) "GraftTrees" "faultPlace" "I") ∈ lw_all := lw_g (lw_at lw_m4 188 rfl) rfl
theorem q1135 : (Jvm.Cond.laysFinal "GraftTrees" "GraftTrees" "heap" "LGraftTrees$Heap;") ∈ lw_all := lw_g (lw_at lw_m4 189 rfl) rfl
theorem q1136 : (Jvm.Cond.soleField "GraftTrees" "heap") ∈ lw_all := lw_g (lw_at lw_m4 190 rfl) rfl
theorem q1137 : (Jvm.Cond.laysFinal "GraftTrees" "GraftTrees" "forest" "LGraftTrees$Forest;") ∈ lw_all := lw_g (lw_at lw_m4 191 rfl) rfl
theorem q1138 : (Jvm.Cond.soleField "GraftTrees" "forest") ∈ lw_all := lw_g (lw_at lw_m4 192 rfl) rfl
theorem q1139 : (Jvm.Cond.laysFinal "GraftTrees" "GraftTrees" "shapes" "LGraftTrees$Shapes;") ∈ lw_all := lw_g (lw_at lw_m4 193 rfl) rfl
theorem q1140 : (Jvm.Cond.soleField "GraftTrees" "shapes") ∈ lw_all := lw_g (lw_at lw_m4 194 rfl) rfl
theorem q1141 : (Jvm.Cond.laysFinal "GraftTrees" "GraftTrees" "codes" "LGraftTrees$Codes;") ∈ lw_all := lw_g (lw_at lw_m4 195 rfl) rfl
theorem q1142 : (Jvm.Cond.soleField "GraftTrees" "codes") ∈ lw_all := lw_g (lw_at lw_m4 196 rfl) rfl
theorem q1143 : (Jvm.Cond.laysFinal "GraftTrees" "GraftTrees" "parser" "LGraftTrees$Parser;") ∈ lw_all := lw_g (lw_at lw_m4 197 rfl) rfl
theorem q1144 : (Jvm.Cond.soleField "GraftTrees" "parser") ∈ lw_all := lw_g (lw_at lw_m4 198 rfl) rfl
theorem q1145 : (Jvm.Cond.laysFinal "GraftTrees" "GraftTrees" "machine" "LGraftTrees$Machine;") ∈ lw_all := lw_g (lw_at lw_m4 199 rfl) rfl
theorem q1146 : (Jvm.Cond.soleField "GraftTrees" "machine") ∈ lw_all := lw_g (lw_at lw_m4 200 rfl) rfl
theorem q1147 : (Jvm.Cond.laysFinal "GraftTrees" "GraftTrees" "tape" "[B") ∈ lw_all := lw_g (lw_at lw_m4 201 rfl) rfl
theorem q1148 : (Jvm.Cond.soleField "GraftTrees" "tape") ∈ lw_all := lw_g (lw_at lw_m4 202 rfl) rfl
theorem q1149 : (Jvm.Cond.lays "GraftTrees" "GraftTrees" "fed" "I") ∈ lw_all := lw_g (lw_at lw_m4 203 rfl) rfl
theorem q1150 : (Jvm.Cond.soleField "GraftTrees" "fed") ∈ lw_all := lw_g (lw_at lw_m4 204 rfl) rfl
theorem q1151 : (Jvm.Cond.lays "GraftTrees" "GraftTrees" "fault" "I") ∈ lw_all := lw_g (lw_at lw_m4 205 rfl) rfl
theorem q1152 : (Jvm.Cond.soleField "GraftTrees" "fault") ∈ lw_all := lw_g (lw_at lw_m4 206 rfl) rfl
theorem q1153 : (Jvm.Cond.lays "GraftTrees" "GraftTrees" "faultPlace" "I") ∈ lw_all := lw_g (lw_at lw_m4 207 rfl) rfl
theorem q1154 : (Jvm.Cond.soleField "GraftTrees" "faultPlace") ∈ lw_all := lw_g (lw_at lw_m4 208 rfl) rfl
theorem q1155 : (Jvm.Cond.superclass "GraftTrees" "java/lang/Object") ∈ lw_all := lw_g (lw_at lw_m4 209 rfl) rfl
theorem q1157 : (Jvm.Cond.instanceMethod ({ cls := "GraftTrees", name := "feed", desc := "(IIIII)I" } : Jvm.MethodName)) ∈ lw_all := lw_g (lw_at lw_m4 211 rfl) rfl
theorem q1158 : (Jvm.Cond.selects "GraftTrees" ({ cls := "GraftTrees", name := "feed", desc := "(IIIII)I" } : Jvm.MethodName) ({ cls := "GraftTrees", name := "feed", desc := "(IIIII)I" } : Jvm.MethodName)) ∈ lw_all := lw_g (lw_at lw_m4 212 rfl) rfl
theorem q1159 : (Jvm.Cond.code ({ cls := "GraftTrees", name := "feed", desc := "(IIIII)I" } : Jvm.MethodName) prog_1_method_2_code (6 : Nat) (Option.some Jvm.ClassFile.FieldType.int)) ∈ lw_all := lw_g (lw_at lw_m4 213 rfl) rfl
theorem q1160 : (Jvm.Cond.methodLink "GraftTrees" (80 : Nat) ({ cls := "GraftTrees", name := "four", desc := "(I)V" } : Jvm.MethodName)) ∈ lw_all := lw_g (lw_at lw_m4 214 rfl) rfl
theorem q1161 : (Jvm.Cond.privateMethod ({ cls := "GraftTrees", name := "four", desc := "(I)V" } : Jvm.MethodName)) ∈ lw_tbl := lw_at lw_m4 215 rfl
theorem q1162 : (Jvm.Cond.instanceMethod ({ cls := "GraftTrees", name := "four", desc := "(I)V" } : Jvm.MethodName)) ∈ lw_all := lw_g (lw_at lw_m4 216 rfl) rfl
theorem q1163 : (Jvm.Cond.code ({ cls := "GraftTrees", name := "four", desc := "(I)V" } : Jvm.MethodName) prog_1_method_3_code (3 : Nat) (Option.none : Option Jvm.ClassFile.FieldType)) ∈ lw_all := lw_g (lw_at lw_m4 217 rfl) rfl
theorem q1165 : (Jvm.Cond.instanceMethod ({ cls := "GraftTrees", name := "load", desc := "(I)I" } : Jvm.MethodName)) ∈ lw_all := lw_g (lw_at lw_m4 219 rfl) rfl
theorem q1166 : (Jvm.Cond.selects "GraftTrees" ({ cls := "GraftTrees", name := "load", desc := "(I)I" } : Jvm.MethodName) ({ cls := "GraftTrees", name := "load", desc := "(I)I" } : Jvm.MethodName)) ∈ lw_all := lw_g (lw_at lw_m4 220 rfl) rfl
theorem q1167 : (Jvm.Cond.code ({ cls := "GraftTrees", name := "load", desc := "(I)I" } : Jvm.MethodName) prog_1_method_4_code (4 : Nat) (Option.some Jvm.ClassFile.FieldType.int)) ∈ lw_all := lw_g (lw_at lw_m4 221 rfl) rfl
theorem q1168 : (Jvm.Cond.methodLink "GraftTrees" (84 : Nat) ({ cls := "GraftTrees$Parser", name := "read", desc := "([BII)Z" } : Jvm.MethodName)) ∈ lw_all := lw_g (lw_at lw_m4 222 rfl) rfl
theorem q1441 : (Jvm.Cond.methodLink "GraftTrees" (99 : Nat) ({ cls := "GraftTrees$Machine", name := "none", desc := "()V" } : Jvm.MethodName)) ∈ lw_all := lw_g (lw_at lw_m6 15 rfl) rfl
theorem q1442 : (Jvm.Cond.methodLink "GraftTrees" (102 : Nat) ({ cls := "GraftTrees$Forest", name := "clear", desc := "()V" } : Jvm.MethodName)) ∈ lw_all := lw_g (lw_at lw_m6 16 rfl) rfl
theorem q1443 : (Jvm.Cond.methodLink "GraftTrees" (103 : Nat) ({ cls := "GraftTrees$Shapes", name := "clear", desc := "()V" } : Jvm.MethodName)) ∈ lw_all := lw_g (lw_at lw_m6 17 rfl) rfl
theorem q1444 : (Jvm.Cond.methodLink "GraftTrees" (104 : Nat) ({ cls := "GraftTrees$Codes", name := "clear", desc := "()V" } : Jvm.MethodName)) ∈ lw_all := lw_g (lw_at lw_m6 18 rfl) rfl
theorem q1448 : (Jvm.Cond.methodLink "GraftTrees" (108 : Nat) ({ cls := "GraftTrees$Forest", name := "plant", desc := "(LGraftTrees$Parser;[BII)I" } : Jvm.MethodName)) ∈ lw_all := lw_g (lw_at lw_m6 22 rfl) rfl
theorem q1537 : (Jvm.Cond.instanceMethod ({ cls := "GraftTrees", name := "fault", desc := "(I)I" } : Jvm.MethodName)) ∈ lw_all := lw_g (lw_at lw_m6 111 rfl) rfl
theorem q1538 : (Jvm.Cond.selects "GraftTrees" ({ cls := "GraftTrees", name := "fault", desc := "(I)I" } : Jvm.MethodName) ({ cls := "GraftTrees", name := "fault", desc := "(I)I" } : Jvm.MethodName)) ∈ lw_all := lw_g (lw_at lw_m6 112 rfl) rfl
theorem q1539 : (Jvm.Cond.code ({ cls := "GraftTrees", name := "fault", desc := "(I)I" } : Jvm.MethodName) prog_1_method_5_code (2 : Nat) (Option.some Jvm.ClassFile.FieldType.int)) ∈ lw_all := lw_g (lw_at lw_m6 113 rfl) rfl
theorem q1541 : (Jvm.Cond.instanceMethod ({ cls := "GraftTrees", name := "start", desc := "(JJ)Z" } : Jvm.MethodName)) ∈ lw_all := lw_g (lw_at lw_m6 115 rfl) rfl
theorem q1542 : (Jvm.Cond.selects "GraftTrees" ({ cls := "GraftTrees", name := "start", desc := "(JJ)Z" } : Jvm.MethodName) ({ cls := "GraftTrees", name := "start", desc := "(JJ)Z" } : Jvm.MethodName)) ∈ lw_all := lw_g (lw_at lw_m6 116 rfl) rfl
theorem q1543 : (Jvm.Cond.code ({ cls := "GraftTrees", name := "start", desc := "(JJ)Z" } : Jvm.MethodName) prog_1_method_6_code (6 : Nat) (Option.some Jvm.ClassFile.FieldType.boolean)) ∈ lw_all := lw_g (lw_at lw_m6 117 rfl) rfl
theorem q1544 : (Jvm.Cond.stringRef "GraftTrees" (115 : Nat) "main") ∈ lw_tbl := lw_at lw_m6 118 rfl
theorem q1545 : (Jvm.Cond.methodLink "GraftTrees" (117 : Nat) ({ cls := "GraftTrees$Forest", name := "named", desc := "(Ljava/lang/String;)I" } : Jvm.MethodName)) ∈ lw_all := lw_g (lw_at lw_m6 119 rfl) rfl
theorem q1549 : (Jvm.Cond.methodLink "GraftTrees" (125 : Nat) ({ cls := "GraftTrees$Machine", name := "start", desc := "(IJJ)V" } : Jvm.MethodName)) ∈ lw_all := lw_g (lw_at lw_m6 123 rfl) rfl
theorem q1900 : (Jvm.Cond.instanceMethod ({ cls := "GraftTrees", name := "run", desc := "(I)I" } : Jvm.MethodName)) ∈ lw_all := lw_g (lw_at lw_m7 234 rfl) rfl
theorem q1901 : (Jvm.Cond.selects "GraftTrees" ({ cls := "GraftTrees", name := "run", desc := "(I)I" } : Jvm.MethodName) ({ cls := "GraftTrees", name := "run", desc := "(I)I" } : Jvm.MethodName)) ∈ lw_all := lw_g (lw_at lw_m7 235 rfl) rfl
theorem q1902 : (Jvm.Cond.code ({ cls := "GraftTrees", name := "run", desc := "(I)I" } : Jvm.MethodName) prog_1_method_7_code (2 : Nat) (Option.some Jvm.ClassFile.FieldType.int)) ∈ lw_all := lw_g (lw_at lw_m7 236 rfl) rfl
theorem q1903 : (Jvm.Cond.methodLink "GraftTrees" (129 : Nat) ({ cls := "GraftTrees$Machine", name := "go", desc := "(I)I" } : Jvm.MethodName)) ∈ lw_all := lw_g (lw_at lw_m7 237 rfl) rfl
theorem q1905 : (Jvm.Cond.instanceMethod ({ cls := "GraftTrees", name := "state", desc := "()I" } : Jvm.MethodName)) ∈ lw_all := lw_g (lw_at lw_m7 239 rfl) rfl
theorem q1906 : (Jvm.Cond.selects "GraftTrees" ({ cls := "GraftTrees", name := "state", desc := "()I" } : Jvm.MethodName) ({ cls := "GraftTrees", name := "state", desc := "()I" } : Jvm.MethodName)) ∈ lw_all := lw_g (lw_at lw_m8 0 rfl) rfl
theorem q1907 : (Jvm.Cond.code ({ cls := "GraftTrees", name := "state", desc := "()I" } : Jvm.MethodName) prog_1_method_8_code (1 : Nat) (Option.some Jvm.ClassFile.FieldType.int)) ∈ lw_all := lw_g (lw_at lw_m8 1 rfl) rfl
theorem q1909 : (Jvm.Cond.instanceMethod ({ cls := "GraftTrees", name := "error", desc := "(I)I" } : Jvm.MethodName)) ∈ lw_all := lw_g (lw_at lw_m8 3 rfl) rfl
theorem q1910 : (Jvm.Cond.selects "GraftTrees" ({ cls := "GraftTrees", name := "error", desc := "(I)I" } : Jvm.MethodName) ({ cls := "GraftTrees", name := "error", desc := "(I)I" } : Jvm.MethodName)) ∈ lw_all := lw_g (lw_at lw_m8 4 rfl) rfl
theorem q1911 : (Jvm.Cond.code ({ cls := "GraftTrees", name := "error", desc := "(I)I" } : Jvm.MethodName) prog_1_method_9_code (2 : Nat) (Option.some Jvm.ClassFile.FieldType.int)) ∈ lw_all := lw_g (lw_at lw_m8 5 rfl) rfl
theorem q1913 : (Jvm.Cond.instanceMethod ({ cls := "GraftTrees", name := "result", desc := "(I)I" } : Jvm.MethodName)) ∈ lw_all := lw_g (lw_at lw_m8 7 rfl) rfl
theorem q1914 : (Jvm.Cond.selects "GraftTrees" ({ cls := "GraftTrees", name := "result", desc := "(I)I" } : Jvm.MethodName) ({ cls := "GraftTrees", name := "result", desc := "(I)I" } : Jvm.MethodName)) ∈ lw_all := lw_g (lw_at lw_m8 8 rfl) rfl
theorem q1915 : (Jvm.Cond.code ({ cls := "GraftTrees", name := "result", desc := "(I)I" } : Jvm.MethodName) prog_1_method_10_code (2 : Nat) (Option.some Jvm.ClassFile.FieldType.int)) ∈ lw_all := lw_g (lw_at lw_m8 9 rfl) rfl
theorem q1917 : (Jvm.Cond.instanceMethod ({ cls := "GraftTrees", name := "out", desc := "(I)I" } : Jvm.MethodName)) ∈ lw_all := lw_g (lw_at lw_m8 11 rfl) rfl
theorem q1918 : (Jvm.Cond.selects "GraftTrees" ({ cls := "GraftTrees", name := "out", desc := "(I)I" } : Jvm.MethodName) ({ cls := "GraftTrees", name := "out", desc := "(I)I" } : Jvm.MethodName)) ∈ lw_all := lw_g (lw_at lw_m8 12 rfl) rfl
theorem q1919 : (Jvm.Cond.code ({ cls := "GraftTrees", name := "out", desc := "(I)I" } : Jvm.MethodName) prog_1_method_11_code (2 : Nat) (Option.some Jvm.ClassFile.FieldType.int)) ∈ lw_all := lw_g (lw_at lw_m8 13 rfl) rfl
theorem q1921 : (Jvm.Cond.instanceMethod ({ cls := "GraftTrees", name := "compile", desc := "()I" } : Jvm.MethodName)) ∈ lw_all := lw_g (lw_at lw_m8 15 rfl) rfl
theorem q1922 : (Jvm.Cond.selects "GraftTrees" ({ cls := "GraftTrees", name := "compile", desc := "()I" } : Jvm.MethodName) ({ cls := "GraftTrees", name := "compile", desc := "()I" } : Jvm.MethodName)) ∈ lw_all := lw_g (lw_at lw_m8 16 rfl) rfl
theorem q1923 : (Jvm.Cond.code ({ cls := "GraftTrees", name := "compile", desc := "()I" } : Jvm.MethodName) prog_1_method_12_code (1 : Nat) (Option.some Jvm.ClassFile.FieldType.int)) ∈ lw_all := lw_g (lw_at lw_m8 17 rfl) rfl
theorem q1924 : (Jvm.Cond.methodLink "GraftTrees" (157 : Nat) ({ cls := "GraftTrees$Codes", name := "compile", desc := "()I" } : Jvm.MethodName)) ∈ lw_all := lw_g (lw_at lw_m8 18 rfl) rfl
theorem q1955 : (Jvm.Cond.instanceMethod ({ cls := "GraftTrees", name := "root", desc := "(II)I" } : Jvm.MethodName)) ∈ lw_all := lw_g (lw_at lw_m8 49 rfl) rfl
theorem q1956 : (Jvm.Cond.selects "GraftTrees" ({ cls := "GraftTrees", name := "root", desc := "(II)I" } : Jvm.MethodName) ({ cls := "GraftTrees", name := "root", desc := "(II)I" } : Jvm.MethodName)) ∈ lw_all := lw_g (lw_at lw_m8 50 rfl) rfl
theorem q1957 : (Jvm.Cond.code ({ cls := "GraftTrees", name := "root", desc := "(II)I" } : Jvm.MethodName) prog_1_method_13_code (6 : Nat) (Option.some Jvm.ClassFile.FieldType.int)) ∈ lw_all := lw_g (lw_at lw_m8 51 rfl) rfl
theorem q1958 : (Jvm.Cond.methodLink "GraftTrees" (170 : Nat) ({ cls := "GraftTrees$Forest", name := "sort", desc := "(II)I" } : Jvm.MethodName)) ∈ lw_all := lw_g (lw_at lw_m8 52 rfl) rfl
theorem q1962 : (Jvm.Cond.methodLink "GraftTrees" (194 : Nat) ({ cls := "GraftTrees$Codes", name := "place", desc := "(I)I" } : Jvm.MethodName)) ∈ lw_all := lw_g (lw_at lw_m8 56 rfl) rfl
theorem q1963 : (Jvm.Cond.methodLink "GraftTrees" (197 : Nat) ({ cls := "GraftTrees$Forest", name := "isNewest", desc := "(I)Z" } : Jvm.MethodName)) ∈ lw_all := lw_g (lw_at lw_m8 57 rfl) rfl
theorem q1965 : (Jvm.Cond.instanceMethod ({ cls := "GraftTrees", name := "node", desc := "(III)I" } : Jvm.MethodName)) ∈ lw_all := lw_g (lw_at lw_m8 59 rfl) rfl
theorem q1966 : (Jvm.Cond.selects "GraftTrees" ({ cls := "GraftTrees", name := "node", desc := "(III)I" } : Jvm.MethodName) ({ cls := "GraftTrees", name := "node", desc := "(III)I" } : Jvm.MethodName)) ∈ lw_all := lw_g (lw_at lw_m8 60 rfl) rfl
theorem q1967 : (Jvm.Cond.code ({ cls := "GraftTrees", name := "node", desc := "(III)I" } : Jvm.MethodName) prog_1_method_14_code (9 : Nat) (Option.some Jvm.ClassFile.FieldType.int)) ∈ lw_all := lw_g (lw_at lw_m8 61 rfl) rfl
theorem q1969 : (Jvm.Cond.instanceMethod ({ cls := "GraftTrees", name := "shape", desc := "(II)I" } : Jvm.MethodName)) ∈ lw_all := lw_g (lw_at lw_m8 63 rfl) rfl
theorem q1970 : (Jvm.Cond.selects "GraftTrees" ({ cls := "GraftTrees", name := "shape", desc := "(II)I" } : Jvm.MethodName) ({ cls := "GraftTrees", name := "shape", desc := "(II)I" } : Jvm.MethodName)) ∈ lw_all := lw_g (lw_at lw_m8 64 rfl) rfl
theorem q1971 : (Jvm.Cond.code ({ cls := "GraftTrees", name := "shape", desc := "(II)I" } : Jvm.MethodName) prog_1_method_15_code (4 : Nat) (Option.some Jvm.ClassFile.FieldType.int)) ∈ lw_all := lw_g (lw_at lw_m8 65 rfl) rfl
theorem q1973 : (Jvm.Cond.instanceMethod ({ cls := "GraftTrees", name := "code", desc := "(II)I" } : Jvm.MethodName)) ∈ lw_all := lw_g (lw_at lw_m8 67 rfl) rfl
theorem q1974 : (Jvm.Cond.selects "GraftTrees" ({ cls := "GraftTrees", name := "code", desc := "(II)I" } : Jvm.MethodName) ({ cls := "GraftTrees", name := "code", desc := "(II)I" } : Jvm.MethodName)) ∈ lw_all := lw_g (lw_at lw_m8 68 rfl) rfl
theorem q1975 : (Jvm.Cond.code ({ cls := "GraftTrees", name := "code", desc := "(II)I" } : Jvm.MethodName) prog_1_method_16_code (3 : Nat) (Option.some Jvm.ClassFile.FieldType.int)) ∈ lw_all := lw_g (lw_at lw_m8 69 rfl) rfl
theorem q1977 : (Jvm.Cond.instanceMethod ({ cls := "GraftTrees", name := "frame", desc := "(II)I" } : Jvm.MethodName)) ∈ lw_all := lw_g (lw_at lw_m8 71 rfl) rfl
theorem q1978 : (Jvm.Cond.selects "GraftTrees" ({ cls := "GraftTrees", name := "frame", desc := "(II)I" } : Jvm.MethodName) ({ cls := "GraftTrees", name := "frame", desc := "(II)I" } : Jvm.MethodName)) ∈ lw_all := lw_g (lw_at lw_m8 72 rfl) rfl
theorem q1979 : (Jvm.Cond.code ({ cls := "GraftTrees", name := "frame", desc := "(II)I" } : Jvm.MethodName) prog_1_method_17_code (4 : Nat) (Option.some Jvm.ClassFile.FieldType.int)) ∈ lw_all := lw_g (lw_at lw_m8 73 rfl) rfl
theorem q1981 : (Jvm.Cond.instanceMethod ({ cls := "GraftTrees", name := "total", desc := "(I)I" } : Jvm.MethodName)) ∈ lw_all := lw_g (lw_at lw_m8 75 rfl) rfl
theorem q1982 : (Jvm.Cond.selects "GraftTrees" ({ cls := "GraftTrees", name := "total", desc := "(I)I" } : Jvm.MethodName) ({ cls := "GraftTrees", name := "total", desc := "(I)I" } : Jvm.MethodName)) ∈ lw_all := lw_g (lw_at lw_m8 76 rfl) rfl
theorem q1983 : (Jvm.Cond.code ({ cls := "GraftTrees", name := "total", desc := "(I)I" } : Jvm.MethodName) prog_1_method_18_code (2 : Nat) (Option.some Jvm.ClassFile.FieldType.int)) ∈ lw_all := lw_g (lw_at lw_m8 77 rfl) rfl
theorem in_X1 : ∀ w ∈ wsX10, w ∈ lw_all := lw_in wsX10 [1135, 1137, 1139, 1141, 1143, 1145, 1147, 1149, 1151, 1153] (by decide +kernel) (by decide +kernel)
/-! GraftTrees$Heap -/
def RX2 : String := "GraftTrees$Heap"
def TX2 : u_T := fun k => match k with
  | 0 => ("GraftTrees$Heap", "letters", "[B", true)
  | 1 => ("GraftTrees$Heap", "from", "[I", true)
  | 2 => ("GraftTrees$Heap", "size", "[I", true)
  | 3 => ("GraftTrees$Heap", "name", "[I", true)
  | 4 => ("GraftTrees$Heap", "looked", "[I", true)
  | 5 => ("GraftTrees$Heap", "sign", "[I", true)
  | 6 => ("GraftTrees$Heap", "limbs", "[J", true)
  | 7 => ("GraftTrees$Heap", "texts", "I", false)
  | 8 => ("GraftTrees$Heap", "textLetters", "I", false)
  | 9 => ("GraftTrees$Heap", "textWholes", "I", false)
  | 10 => ("GraftTrees$Heap", "strings", "I", false)
  | 11 => ("GraftTrees$Heap", "used", "I", false)
  | 12 => ("GraftTrees$Heap", "wholes", "I", false)
  | 13 => ("GraftTrees$Heap", "made", "I", false)
  | _ => ("GraftTrees$Heap", "laid", "I", false)
def tyX2 : Nat → FieldType := fun k => match k with
  | 0 => .array .byte
  | 1 => .array .int
  | 2 => .array .int
  | 3 => .array .int
  | 4 => .array .int
  | 5 => .array .int
  | 6 => .array .long
  | 7 => .int
  | 8 => .int
  | 9 => .int
  | 10 => .int
  | 11 => .int
  | 12 => .int
  | 13 => .int
  | _ => .int
abbrev wsX20 : List Cond := u_ws RX2 TX2 15
theorem nmX2 : ∀ a, a < 15 → ∀ b, b < 15 → a ≠ b → (TX2 a).2.1 ≠ (TX2 b).2.1 := by decide +kernel
theorem tyX2_ok : ∀ k, k < 15 → parseFieldDescriptor (TX2 k).2.2.1 = some (tyX2 k) := by decide +kernel
abbrev cX2_init : ByteArray := prog_4_method_1_code
def yX2_init : MethodName := ⟨RX2, "<init>", "()V"⟩
abbrev cX2_clear : ByteArray := prog_4_method_2_code
def yX2_clear : MethodName := ⟨RX2, "clear", "()V"⟩
abbrev cX2_begin : ByteArray := prog_4_method_3_code
def yX2_begin : MethodName := ⟨RX2, "begin", "()V"⟩
abbrev cX2_string : ByteArray := prog_4_method_5_code
def yX2_string : MethodName := ⟨RX2, "string", "([BII)I"⟩
abbrev cX2_is : ByteArray := prog_4_method_6_code
def yX2_is : MethodName := ⟨RX2, "is", "(I[BII)Z"⟩
abbrev cX2_whole : ByteArray := prog_4_method_8_code
def yX2_whole : MethodName := ⟨RX2, "whole", "(LGraftTrees$Whole;Z)I"⟩
abbrev cX2_get : ByteArray := prog_4_method_9_code
def yX2_get : MethodName := ⟨RX2, "get", "(ILGraftTrees$Whole;)V"⟩
abbrev cX2_isSame : ByteArray := prog_4_method_7_code
def yX2_isSame : MethodName := ⟨RX2, "isSame", "(II)Z"⟩
abbrev cX2_lay : ByteArray := prog_4_method_10_code
def yX2_lay : MethodName := ⟨RX2, "lay", "()V"⟩
abbrev cX2_put : ByteArray := prog_4_method_11_code
def yX2_put : MethodName := ⟨RX2, "put", "(I)V"⟩
abbrev cX2_laidLetters : ByteArray := prog_4_method_12_code
def yX2_laidLetters : MethodName := ⟨RX2, "laidLetters", "()I"⟩
abbrev cX2_makes : ByteArray := prog_4_method_4_code
def yX2_makes : MethodName := ⟨RX2, "makes", "(I)Z"⟩
abbrev cX2_laidString : ByteArray := prog_4_method_13_code
def yX2_laidString : MethodName := ⟨RX2, "laidString", "()I"⟩
theorem q228 : (Jvm.Cond.initialized "GraftTrees$Heap") ∈ lw_all := lw_g (lw_at lw_m1 2 rfl) rfl
theorem q258 : (Jvm.Cond.instantiable "GraftTrees$Heap" (15 : Nat)) ∈ lw_all := lw_g (lw_at lw_m1 32 rfl) rfl
theorem q260 : (Jvm.Cond.instanceMethod ({ cls := "GraftTrees$Heap", name := "<init>", desc := "()V" } : Jvm.MethodName)) ∈ lw_all := lw_g (lw_at lw_m1 34 rfl) rfl
theorem q261 : (Jvm.Cond.code ({ cls := "GraftTrees$Heap", name := "<init>", desc := "()V" } : Jvm.MethodName) prog_4_method_1_code (1 : Nat) (Option.none : Option Jvm.ClassFile.FieldType)) ∈ lw_all := lw_g (lw_at lw_m1 35 rfl) rfl
theorem q262 : (Jvm.Cond.methodLink "GraftTrees$Heap" (3 : Nat) ({ cls := "java/lang/Object", name := "<init>", desc := "()V" } : Jvm.MethodName)) ∈ lw_all := lw_g (lw_at lw_m1 36 rfl) rfl
theorem q263 : (Jvm.Cond.constant "GraftTrees$Heap" (11 : Nat) (124600 : Int32)) ∈ lw_all := lw_g (lw_at lw_m1 37 rfl) rfl
theorem q264 : (Jvm.Cond.constant "GraftTrees$Heap" (16 : Nat) (108000 : Int32)) ∈ lw_all := lw_g (lw_at lw_m1 38 rfl) rfl
theorem q265 : (Jvm.Cond.constant "GraftTrees$Heap" (30 : Nat) (33000 : Int32)) ∈ lw_all := lw_g (lw_at lw_m1 39 rfl) rfl
theorem q266 : (Jvm.Cond.constant "GraftTrees$Heap" (34 : Nat) (132000 : Int32)) ∈ lw_all := lw_g (lw_at lw_m1 40 rfl) rfl
theorem q267 : (Jvm.Cond.fieldLink "GraftTrees$Heap" (12 : Nat) "GraftTrees$Heap" "letters" "[B") ∈ lw_all := lw_g (lw_at lw_m1 41 rfl) rfl
theorem q272 : (Jvm.Cond.fieldLink "GraftTrees$Heap" (17 : Nat) "GraftTrees$Heap" "from" "[I") ∈ lw_all := lw_g (lw_at lw_m1 46 rfl) rfl
theorem q277 : (Jvm.Cond.fieldLink "GraftTrees$Heap" (21 : Nat) "GraftTrees$Heap" "size" "[I") ∈ lw_all := lw_g (lw_at lw_m1 51 rfl) rfl
theorem q282 : (Jvm.Cond.fieldLink "GraftTrees$Heap" (24 : Nat) "GraftTrees$Heap" "name" "[I") ∈ lw_all := lw_g (lw_at lw_m1 56 rfl) rfl
theorem q284 : (Jvm.Cond.fieldLink "GraftTrees$Heap" (27 : Nat) "GraftTrees$Heap" "looked" "[I") ∈ lw_all := lw_g (lw_at lw_m1 58 rfl) rfl
theorem q286 : (Jvm.Cond.fieldLink "GraftTrees$Heap" (31 : Nat) "GraftTrees$Heap" "sign" "[I") ∈ lw_all := lw_g (lw_at lw_m1 60 rfl) rfl
theorem q287 : (Jvm.Cond.fieldLink "GraftTrees$Heap" (35 : Nat) "GraftTrees$Heap" "limbs" "[J") ∈ lw_all := lw_g (lw_at lw_m1 61 rfl) rfl
theorem q288 : (Jvm.Cond.fieldLink "GraftTrees$Heap" (39 : Nat) "GraftTrees$Heap" "texts" "I") ∈ lw_all := lw_g (lw_at lw_m1 62 rfl) rfl
theorem q289 : (Jvm.Cond.fieldLink "GraftTrees$Heap" (43 : Nat) "GraftTrees$Heap" "textLetters" "I") ∈ lw_all := lw_g (lw_at lw_m1 63 rfl) rfl
theorem q290 : (Jvm.Cond.fieldLink "GraftTrees$Heap" (46 : Nat) "GraftTrees$Heap" "textWholes" "I") ∈ lw_all := lw_g (lw_at lw_m1 64 rfl) rfl
theorem q291 : (Jvm.Cond.fieldLink "GraftTrees$Heap" (52 : Nat) "GraftTrees$Heap" "strings" "I") ∈ lw_all := lw_g (lw_at lw_m1 65 rfl) rfl
theorem q292 : (Jvm.Cond.fieldLink "GraftTrees$Heap" (55 : Nat) "GraftTrees$Heap" "used" "I") ∈ lw_all := lw_g (lw_at lw_m1 66 rfl) rfl
theorem q294 : (Jvm.Cond.fieldLink "GraftTrees$Heap" (58 : Nat) "GraftTrees$Heap" "wholes" "I") ∈ lw_all := lw_g (lw_at lw_m1 68 rfl) rfl
theorem q295 : (Jvm.Cond.fieldLink "GraftTrees$Heap" (61 : Nat) "GraftTrees$Heap" "made" "I") ∈ lw_all := lw_g (lw_at lw_m1 69 rfl) rfl
theorem q296 : (Jvm.Cond.fieldLink "GraftTrees$Heap" (82 : Nat) "GraftTrees$Heap" "laid" "I") ∈ lw_all := lw_g (lw_at lw_m1 70 rfl) rfl
theorem q297 : (Jvm.Cond.laysFinal "GraftTrees$Heap" "GraftTrees$Heap" "letters" "[B") ∈ lw_all := lw_g (lw_at lw_m1 71 rfl) rfl
theorem q298 : (Jvm.Cond.soleField "GraftTrees$Heap" "letters") ∈ lw_all := lw_g (lw_at lw_m1 72 rfl) rfl
theorem q299 : (Jvm.Cond.laysFinal "GraftTrees$Heap" "GraftTrees$Heap" "from" "[I") ∈ lw_all := lw_g (lw_at lw_m1 73 rfl) rfl
theorem q300 : (Jvm.Cond.soleField "GraftTrees$Heap" "from") ∈ lw_all := lw_g (lw_at lw_m1 74 rfl) rfl
theorem q301 : (Jvm.Cond.laysFinal "GraftTrees$Heap" "GraftTrees$Heap" "size" "[I") ∈ lw_all := lw_g (lw_at lw_m1 75 rfl) rfl
theorem q302 : (Jvm.Cond.soleField "GraftTrees$Heap" "size") ∈ lw_all := lw_g (lw_at lw_m1 76 rfl) rfl
theorem q303 : (Jvm.Cond.laysFinal "GraftTrees$Heap" "GraftTrees$Heap" "name" "[I") ∈ lw_all := lw_g (lw_at lw_m1 77 rfl) rfl
theorem q304 : (Jvm.Cond.soleField "GraftTrees$Heap" "name") ∈ lw_all := lw_g (lw_at lw_m1 78 rfl) rfl
theorem q305 : (Jvm.Cond.laysFinal "GraftTrees$Heap" "GraftTrees$Heap" "looked" "[I") ∈ lw_all := lw_g (lw_at lw_m1 79 rfl) rfl
theorem q306 : (Jvm.Cond.soleField "GraftTrees$Heap" "looked") ∈ lw_all := lw_g (lw_at lw_m1 80 rfl) rfl
theorem q307 : (Jvm.Cond.laysFinal "GraftTrees$Heap" "GraftTrees$Heap" "sign" "[I") ∈ lw_all := lw_g (lw_at lw_m1 81 rfl) rfl
theorem q308 : (Jvm.Cond.soleField "GraftTrees$Heap" "sign") ∈ lw_all := lw_g (lw_at lw_m1 82 rfl) rfl
theorem q309 : (Jvm.Cond.laysFinal "GraftTrees$Heap" "GraftTrees$Heap" "limbs" "[J") ∈ lw_all := lw_g (lw_at lw_m1 83 rfl) rfl
theorem q310 : (Jvm.Cond.soleField "GraftTrees$Heap" "limbs") ∈ lw_all := lw_g (lw_at lw_m1 84 rfl) rfl
theorem q311 : (Jvm.Cond.lays "GraftTrees$Heap" "GraftTrees$Heap" "texts" "I") ∈ lw_all := lw_g (lw_at lw_m1 85 rfl) rfl
theorem q312 : (Jvm.Cond.soleField "GraftTrees$Heap" "texts") ∈ lw_all := lw_g (lw_at lw_m1 86 rfl) rfl
theorem q313 : (Jvm.Cond.lays "GraftTrees$Heap" "GraftTrees$Heap" "textLetters" "I") ∈ lw_all := lw_g (lw_at lw_m1 87 rfl) rfl
theorem q314 : (Jvm.Cond.soleField "GraftTrees$Heap" "textLetters") ∈ lw_all := lw_g (lw_at lw_m1 88 rfl) rfl
theorem q315 : (Jvm.Cond.lays "GraftTrees$Heap" "GraftTrees$Heap" "textWholes" "I") ∈ lw_all := lw_g (lw_at lw_m1 89 rfl) rfl
theorem q316 : (Jvm.Cond.soleField "GraftTrees$Heap" "textWholes") ∈ lw_all := lw_g (lw_at lw_m1 90 rfl) rfl
theorem q317 : (Jvm.Cond.lays "GraftTrees$Heap" "GraftTrees$Heap" "strings" "I") ∈ lw_all := lw_g (lw_at lw_m1 91 rfl) rfl
theorem q318 : (Jvm.Cond.soleField "GraftTrees$Heap" "strings") ∈ lw_all := lw_g (lw_at lw_m1 92 rfl) rfl
theorem q319 : (Jvm.Cond.lays "GraftTrees$Heap" "GraftTrees$Heap" "used" "I") ∈ lw_all := lw_g (lw_at lw_m1 93 rfl) rfl
theorem q320 : (Jvm.Cond.soleField "GraftTrees$Heap" "used") ∈ lw_all := lw_g (lw_at lw_m1 94 rfl) rfl
theorem q321 : (Jvm.Cond.lays "GraftTrees$Heap" "GraftTrees$Heap" "wholes" "I") ∈ lw_all := lw_g (lw_at lw_m1 95 rfl) rfl
theorem q322 : (Jvm.Cond.soleField "GraftTrees$Heap" "wholes") ∈ lw_all := lw_g (lw_at lw_m1 96 rfl) rfl
theorem q323 : (Jvm.Cond.lays "GraftTrees$Heap" "GraftTrees$Heap" "made" "I") ∈ lw_all := lw_g (lw_at lw_m1 97 rfl) rfl
theorem q324 : (Jvm.Cond.soleField "GraftTrees$Heap" "made") ∈ lw_all := lw_g (lw_at lw_m1 98 rfl) rfl
theorem q325 : (Jvm.Cond.lays "GraftTrees$Heap" "GraftTrees$Heap" "laid" "I") ∈ lw_all := lw_g (lw_at lw_m1 99 rfl) rfl
theorem q326 : (Jvm.Cond.soleField "GraftTrees$Heap" "laid") ∈ lw_all := lw_g (lw_at lw_m1 100 rfl) rfl
theorem q327 : (Jvm.Cond.superclass "GraftTrees$Heap" "java/lang/Object") ∈ lw_all := lw_g (lw_at lw_m1 101 rfl) rfl
theorem q346 : (Jvm.Cond.fieldLinkNest "GraftTrees$Heap" (75 : Nat) "GraftTrees$Whole" "sign" "I" "GraftTrees") ∈ lw_tbl := lw_at lw_m1 120 rfl
theorem q349 : (Jvm.Cond.fieldLinkNest "GraftTrees$Heap" (79 : Nat) "GraftTrees$Whole" "limb" "[J" "GraftTrees") ∈ lw_tbl := lw_at lw_m1 123 rfl
theorem q375 : (Jvm.Cond.instanceMethod ({ cls := "GraftTrees$Heap", name := "clear", desc := "()V" } : Jvm.MethodName)) ∈ lw_all := lw_g (lw_at lw_m1 149 rfl) rfl
theorem q376 : (Jvm.Cond.selects "GraftTrees$Heap" ({ cls := "GraftTrees$Heap", name := "clear", desc := "()V" } : Jvm.MethodName) ({ cls := "GraftTrees$Heap", name := "clear", desc := "()V" } : Jvm.MethodName)) ∈ lw_all := lw_g (lw_at lw_m1 150 rfl) rfl
theorem q377 : (Jvm.Cond.code ({ cls := "GraftTrees$Heap", name := "clear", desc := "()V" } : Jvm.MethodName) prog_4_method_2_code (1 : Nat) (Option.none : Option Jvm.ClassFile.FieldType)) ∈ lw_all := lw_g (lw_at lw_m1 151 rfl) rfl
theorem q378 : (Jvm.Cond.methodLink "GraftTrees$Heap" (49 : Nat) ({ cls := "GraftTrees$Heap", name := "begin", desc := "()V" } : Jvm.MethodName)) ∈ lw_all := lw_g (lw_at lw_m1 152 rfl) rfl
theorem q379 : (Jvm.Cond.instanceMethod ({ cls := "GraftTrees$Heap", name := "begin", desc := "()V" } : Jvm.MethodName)) ∈ lw_all := lw_g (lw_at lw_m1 153 rfl) rfl
theorem q380 : (Jvm.Cond.selects "GraftTrees$Heap" ({ cls := "GraftTrees$Heap", name := "begin", desc := "()V" } : Jvm.MethodName) ({ cls := "GraftTrees$Heap", name := "begin", desc := "()V" } : Jvm.MethodName)) ∈ lw_all := lw_g (lw_at lw_m1 154 rfl) rfl
theorem q381 : (Jvm.Cond.code ({ cls := "GraftTrees$Heap", name := "begin", desc := "()V" } : Jvm.MethodName) prog_4_method_3_code (1 : Nat) (Option.none : Option Jvm.ClassFile.FieldType)) ∈ lw_all := lw_g (lw_at lw_m1 155 rfl) rfl
theorem q444 : (Jvm.Cond.instanceMethod ({ cls := "GraftTrees$Heap", name := "string", desc := "([BII)I" } : Jvm.MethodName)) ∈ lw_all := lw_g (lw_at lw_m1 218 rfl) rfl
theorem q445 : (Jvm.Cond.selects "GraftTrees$Heap" ({ cls := "GraftTrees$Heap", name := "string", desc := "([BII)I" } : Jvm.MethodName) ({ cls := "GraftTrees$Heap", name := "string", desc := "([BII)I" } : Jvm.MethodName)) ∈ lw_all := lw_g (lw_at lw_m1 219 rfl) rfl
theorem q446 : (Jvm.Cond.code ({ cls := "GraftTrees$Heap", name := "string", desc := "([BII)I" } : Jvm.MethodName) prog_4_method_5_code (5 : Nat) (Option.some Jvm.ClassFile.FieldType.int)) ∈ lw_all := lw_g (lw_at lw_m1 220 rfl) rfl
theorem q447 : (Jvm.Cond.methodLink "GraftTrees$Heap" (65 : Nat) ({ cls := "GraftTrees$Heap", name := "is", desc := "(I[BII)Z" } : Jvm.MethodName)) ∈ lw_all := lw_g (lw_at lw_m1 221 rfl) rfl
theorem q448 : (Jvm.Cond.instanceMethod ({ cls := "GraftTrees$Heap", name := "is", desc := "(I[BII)Z" } : Jvm.MethodName)) ∈ lw_all := lw_g (lw_at lw_m1 222 rfl) rfl
theorem q449 : (Jvm.Cond.selects "GraftTrees$Heap" ({ cls := "GraftTrees$Heap", name := "is", desc := "(I[BII)Z" } : Jvm.MethodName) ({ cls := "GraftTrees$Heap", name := "is", desc := "(I[BII)Z" } : Jvm.MethodName)) ∈ lw_all := lw_g (lw_at lw_m1 223 rfl) rfl
theorem q450 : (Jvm.Cond.code ({ cls := "GraftTrees$Heap", name := "is", desc := "(I[BII)Z" } : Jvm.MethodName) prog_4_method_6_code (6 : Nat) (Option.some Jvm.ClassFile.FieldType.boolean)) ∈ lw_all := lw_g (lw_at lw_m1 224 rfl) rfl
theorem q451 : (Jvm.Cond.methodLink "GraftTrees$Heap" (69 : Nat) ({ cls := "java/lang/System", name := "arraycopy", desc := "(Ljava/lang/Object;ILjava/lang/Object;II)V" } : Jvm.MethodName)) ∈ lw_all := lw_g (lw_at lw_m1 225 rfl) rfl
theorem q1521 : (Jvm.Cond.instanceMethod ({ cls := "GraftTrees$Heap", name := "whole", desc := "(LGraftTrees$Whole;Z)I" } : Jvm.MethodName)) ∈ lw_all := lw_g (lw_at lw_m6 95 rfl) rfl
theorem q1522 : (Jvm.Cond.selects "GraftTrees$Heap" ({ cls := "GraftTrees$Heap", name := "whole", desc := "(LGraftTrees$Whole;Z)I" } : Jvm.MethodName) ({ cls := "GraftTrees$Heap", name := "whole", desc := "(LGraftTrees$Whole;Z)I" } : Jvm.MethodName)) ∈ lw_all := lw_g (lw_at lw_m6 96 rfl) rfl
theorem q1523 : (Jvm.Cond.code ({ cls := "GraftTrees$Heap", name := "whole", desc := "(LGraftTrees$Whole;Z)I" } : Jvm.MethodName) prog_4_method_8_code (5 : Nat) (Option.some Jvm.ClassFile.FieldType.int)) ∈ lw_all := lw_g (lw_at lw_m6 97 rfl) rfl
theorem q1684 : (Jvm.Cond.instanceMethod ({ cls := "GraftTrees$Heap", name := "get", desc := "(ILGraftTrees$Whole;)V" } : Jvm.MethodName)) ∈ lw_all := lw_g (lw_at lw_m7 18 rfl) rfl
theorem q1685 : (Jvm.Cond.selects "GraftTrees$Heap" ({ cls := "GraftTrees$Heap", name := "get", desc := "(ILGraftTrees$Whole;)V" } : Jvm.MethodName) ({ cls := "GraftTrees$Heap", name := "get", desc := "(ILGraftTrees$Whole;)V" } : Jvm.MethodName)) ∈ lw_all := lw_g (lw_at lw_m7 19 rfl) rfl
theorem q1686 : (Jvm.Cond.code ({ cls := "GraftTrees$Heap", name := "get", desc := "(ILGraftTrees$Whole;)V" } : Jvm.MethodName) prog_4_method_9_code (4 : Nat) (Option.none : Option Jvm.ClassFile.FieldType)) ∈ lw_all := lw_g (lw_at lw_m7 20 rfl) rfl
theorem q1694 : (Jvm.Cond.instanceMethod ({ cls := "GraftTrees$Heap", name := "isSame", desc := "(II)Z" } : Jvm.MethodName)) ∈ lw_all := lw_g (lw_at lw_m7 28 rfl) rfl
theorem q1695 : (Jvm.Cond.selects "GraftTrees$Heap" ({ cls := "GraftTrees$Heap", name := "isSame", desc := "(II)Z" } : Jvm.MethodName) ({ cls := "GraftTrees$Heap", name := "isSame", desc := "(II)Z" } : Jvm.MethodName)) ∈ lw_all := lw_g (lw_at lw_m7 29 rfl) rfl
theorem q1696 : (Jvm.Cond.code ({ cls := "GraftTrees$Heap", name := "isSame", desc := "(II)Z" } : Jvm.MethodName) prog_4_method_7_code (3 : Nat) (Option.some Jvm.ClassFile.FieldType.boolean)) ∈ lw_all := lw_g (lw_at lw_m7 30 rfl) rfl
theorem q1706 : (Jvm.Cond.instanceMethod ({ cls := "GraftTrees$Heap", name := "lay", desc := "()V" } : Jvm.MethodName)) ∈ lw_all := lw_g (lw_at lw_m7 40 rfl) rfl
theorem q1707 : (Jvm.Cond.selects "GraftTrees$Heap" ({ cls := "GraftTrees$Heap", name := "lay", desc := "()V" } : Jvm.MethodName) ({ cls := "GraftTrees$Heap", name := "lay", desc := "()V" } : Jvm.MethodName)) ∈ lw_all := lw_g (lw_at lw_m7 41 rfl) rfl
theorem q1708 : (Jvm.Cond.code ({ cls := "GraftTrees$Heap", name := "lay", desc := "()V" } : Jvm.MethodName) prog_4_method_10_code (1 : Nat) (Option.none : Option Jvm.ClassFile.FieldType)) ∈ lw_all := lw_g (lw_at lw_m7 42 rfl) rfl
theorem q1718 : (Jvm.Cond.instanceMethod ({ cls := "GraftTrees$Heap", name := "put", desc := "(I)V" } : Jvm.MethodName)) ∈ lw_all := lw_g (lw_at lw_m7 52 rfl) rfl
theorem q1719 : (Jvm.Cond.selects "GraftTrees$Heap" ({ cls := "GraftTrees$Heap", name := "put", desc := "(I)V" } : Jvm.MethodName) ({ cls := "GraftTrees$Heap", name := "put", desc := "(I)V" } : Jvm.MethodName)) ∈ lw_all := lw_g (lw_at lw_m7 53 rfl) rfl
theorem q1720 : (Jvm.Cond.code ({ cls := "GraftTrees$Heap", name := "put", desc := "(I)V" } : Jvm.MethodName) prog_4_method_11_code (2 : Nat) (Option.none : Option Jvm.ClassFile.FieldType)) ∈ lw_all := lw_g (lw_at lw_m7 54 rfl) rfl
theorem q1738 : (Jvm.Cond.instanceMethod ({ cls := "GraftTrees$Heap", name := "laidLetters", desc := "()I" } : Jvm.MethodName)) ∈ lw_all := lw_g (lw_at lw_m7 72 rfl) rfl
theorem q1739 : (Jvm.Cond.selects "GraftTrees$Heap" ({ cls := "GraftTrees$Heap", name := "laidLetters", desc := "()I" } : Jvm.MethodName) ({ cls := "GraftTrees$Heap", name := "laidLetters", desc := "()I" } : Jvm.MethodName)) ∈ lw_all := lw_g (lw_at lw_m7 73 rfl) rfl
theorem q1740 : (Jvm.Cond.code ({ cls := "GraftTrees$Heap", name := "laidLetters", desc := "()I" } : Jvm.MethodName) prog_4_method_12_code (1 : Nat) (Option.some Jvm.ClassFile.FieldType.int)) ∈ lw_all := lw_g (lw_at lw_m7 74 rfl) rfl
theorem q1742 : (Jvm.Cond.instanceMethod ({ cls := "GraftTrees$Heap", name := "makes", desc := "(I)Z" } : Jvm.MethodName)) ∈ lw_all := lw_g (lw_at lw_m7 76 rfl) rfl
theorem q1743 : (Jvm.Cond.selects "GraftTrees$Heap" ({ cls := "GraftTrees$Heap", name := "makes", desc := "(I)Z" } : Jvm.MethodName) ({ cls := "GraftTrees$Heap", name := "makes", desc := "(I)Z" } : Jvm.MethodName)) ∈ lw_all := lw_g (lw_at lw_m7 77 rfl) rfl
theorem q1744 : (Jvm.Cond.code ({ cls := "GraftTrees$Heap", name := "makes", desc := "(I)Z" } : Jvm.MethodName) prog_4_method_4_code (2 : Nat) (Option.some Jvm.ClassFile.FieldType.boolean)) ∈ lw_all := lw_g (lw_at lw_m7 78 rfl) rfl
theorem q1745 : (Jvm.Cond.constant "GraftTrees$Heap" (64 : Nat) (100000 : Int32)) ∈ lw_all := lw_g (lw_at lw_m7 79 rfl) rfl
theorem q1747 : (Jvm.Cond.instanceMethod ({ cls := "GraftTrees$Heap", name := "laidString", desc := "()I" } : Jvm.MethodName)) ∈ lw_all := lw_g (lw_at lw_m7 81 rfl) rfl
theorem q1748 : (Jvm.Cond.selects "GraftTrees$Heap" ({ cls := "GraftTrees$Heap", name := "laidString", desc := "()I" } : Jvm.MethodName) ({ cls := "GraftTrees$Heap", name := "laidString", desc := "()I" } : Jvm.MethodName)) ∈ lw_all := lw_g (lw_at lw_m7 82 rfl) rfl
theorem q1749 : (Jvm.Cond.code ({ cls := "GraftTrees$Heap", name := "laidString", desc := "()I" } : Jvm.MethodName) prog_4_method_13_code (1 : Nat) (Option.some Jvm.ClassFile.FieldType.int)) ∈ lw_all := lw_g (lw_at lw_m7 83 rfl) rfl
theorem in_X2 : ∀ w ∈ wsX20, w ∈ lw_all := lw_in wsX20 [297, 299, 301, 303, 305, 307, 309, 311, 313, 315, 317, 319, 321, 323, 325] (by decide +kernel) (by decide +kernel)
/-! GraftTrees$Forest -/
def RX3 : String := "GraftTrees$Forest"
def TX3 : u_T := fun k => match k with
  | 0 => ("GraftTrees$Forest", "heap", "LGraftTrees$Heap;", true)
  | 1 => ("GraftTrees$Forest", "kind", "[I", true)
  | 2 => ("GraftTrees$Forest", "token", "[I", true)
  | 3 => ("GraftTrees$Forest", "state", "[I", true)
  | 4 => ("GraftTrees$Forest", "changes", "[I", true)
  | 5 => ("GraftTrees$Forest", "local", "[I", true)
  | 6 => ("GraftTrees$Forest", "many", "[I", true)
  | 7 => ("GraftTrees$Forest", "end", "[I", true)
  | 8 => ("GraftTrees$Forest", "constKind", "[I", true)
  | 9 => ("GraftTrees$Forest", "constant", "[J", true)
  | 10 => ("GraftTrees$Forest", "entries", "[I", true)
  | 11 => ("GraftTrees$Forest", "entry", "[I", true)
  | 12 => ("GraftTrees$Forest", "nodes", "I", false)
  | 13 => ("GraftTrees$Forest", "op", "[I", true)
  | 14 => ("GraftTrees$Forest", "to", "[I", true)
  | 15 => ("GraftTrees$Forest", "of", "[I", true)
  | 16 => ("GraftTrees$Forest", "size", "I", false)
  | 17 => ("GraftTrees$Forest", "funName", "[I", true)
  | 18 => ("GraftTrees$Forest", "newest", "[I", true)
  | 19 => ("GraftTrees$Forest", "funs", "I", false)
  | 20 => ("GraftTrees$Forest", "fun", "[I", true)
  | 21 => ("GraftTrees$Forest", "from", "[I", true)
  | 22 => ("GraftTrees$Forest", "count", "[I", true)
  | 23 => ("GraftTrees$Forest", "begin", "[I", true)
  | 24 => ("GraftTrees$Forest", "length", "[I", true)
  | 25 => ("GraftTrees$Forest", "params", "[I", true)
  | 26 => ("GraftTrees$Forest", "locals", "[I", true)
  | 27 => ("GraftTrees$Forest", "heat", "[I", true)
  | 28 => ("GraftTrees$Forest", "made", "[I", true)
  | 29 => ("GraftTrees$Forest", "valid", "[I", true)
  | 30 => ("GraftTrees$Forest", "sorts", "[I", true)
  | 31 => ("GraftTrees$Forest", "roots", "I", false)
  | 32 => ("GraftTrees$Forest", "p", "LGraftTrees$Parser;", false)
  | 33 => ("GraftTrees$Forest", "row", "[B", false)
  | 34 => ("GraftTrees$Forest", "start", "I", false)
  | 35 => ("GraftTrees$Forest", "root", "I", false)
  | 36 => ("GraftTrees$Forest", "breaks", "I", false)
  | 37 => ("GraftTrees$Forest", "again", "I", false)
  | 38 => ("GraftTrees$Forest", "whole", "LGraftTrees$Whole;", true)
  | 39 => ("GraftTrees$Forest", "kinds", "[Ljava/lang/String;", true)
  | 40 => ("GraftTrees$Forest", "kindName", "[I", true)
  | _ => ("GraftTrees$Forest", "spelt", "[B", true)
def tyX3 : Nat → FieldType := fun k => match k with
  | 0 => .object "GraftTrees$Heap"
  | 1 => .array .int
  | 2 => .array .int
  | 3 => .array .int
  | 4 => .array .int
  | 5 => .array .int
  | 6 => .array .int
  | 7 => .array .int
  | 8 => .array .int
  | 9 => .array .long
  | 10 => .array .int
  | 11 => .array .int
  | 12 => .int
  | 13 => .array .int
  | 14 => .array .int
  | 15 => .array .int
  | 16 => .int
  | 17 => .array .int
  | 18 => .array .int
  | 19 => .int
  | 20 => .array .int
  | 21 => .array .int
  | 22 => .array .int
  | 23 => .array .int
  | 24 => .array .int
  | 25 => .array .int
  | 26 => .array .int
  | 27 => .array .int
  | 28 => .array .int
  | 29 => .array .int
  | 30 => .array .int
  | 31 => .int
  | 32 => .object "GraftTrees$Parser"
  | 33 => .array .byte
  | 34 => .int
  | 35 => .int
  | 36 => .int
  | 37 => .int
  | 38 => .object "GraftTrees$Whole"
  | 39 => .array (.object "java/lang/String")
  | 40 => .array .int
  | _ => .array .byte
abbrev wsX30 : List Cond := u_ws RX3 TX3 42
theorem nmX3 : ∀ a, a < 42 → ∀ b, b < 42 → a ≠ b → (TX3 a).2.1 ≠ (TX3 b).2.1 := by decide +kernel
theorem tyX3_ok : ∀ k, k < 42 → parseFieldDescriptor (TX3 k).2.2.1 = some (tyX3 k) := by decide +kernel
abbrev cX3_init : ByteArray := prog_3_method_1_code
def yX3_init : MethodName := ⟨RX3, "<init>", "(LGraftTrees$Heap;)V"⟩
abbrev cX3_clear : ByteArray := prog_3_method_2_code
def yX3_clear : MethodName := ⟨RX3, "clear", "()V"⟩
abbrev cX3_plant : ByteArray := prog_3_method_3_code
def yX3_plant : MethodName := ⟨RX3, "plant", "(Ljava/lang/String;)V"⟩
abbrev cX3_spell : ByteArray := prog_3_method_4_code
def yX3_spell : MethodName := ⟨RX3, "spell", "(Ljava/lang/String;)I"⟩
abbrev cX3_function : ByteArray := prog_3_method_6_code
def yX3_function : MethodName := ⟨RX3, "function", "([BII)I"⟩
abbrev cX3_rootOf : ByteArray := prog_3_method_8_code
def yX3_rootOf : MethodName := ⟨RX3, "rootOf", "(I)I"⟩
abbrev cX3_text : ByteArray := prog_3_method_5_code
def yX3_text : MethodName := ⟨RX3, "text", "(Ljava/lang/String;)I"⟩
abbrev cX3_plant_2 : ByteArray := prog_3_method_10_code
def yX3_plant_2 : MethodName := ⟨RX3, "plant", "(LGraftTrees$Parser;[BII)I"⟩
abbrev cX3_node : ByteArray := prog_3_method_11_code
def yX3_node : MethodName := ⟨RX3, "node", "(I)I"⟩
abbrev cX3_statements : ByteArray := prog_3_method_13_code
def yX3_statements : MethodName := ⟨RX3, "statements", "(I)V"⟩
abbrev cX3_statement : ByteArray := prog_3_method_14_code
def yX3_statement : MethodName := ⟨RX3, "statement", "(I)V"⟩
abbrev cX3_put : ByteArray := prog_3_method_12_code
def yX3_put : MethodName := ⟨RX3, "put", "(III)I"⟩
abbrev cX3_work : ByteArray := prog_3_method_17_code
def yX3_work : MethodName := ⟨RX3, "work", "(I)V"⟩
abbrev cX3_work_2 : ByteArray := prog_3_method_18_code
def yX3_work_2 : MethodName := ⟨RX3, "work", "(II)V"⟩
abbrev cX3_number : ByteArray := prog_3_method_21_code
def yX3_number : MethodName := ⟨RX3, "number", "(II)V"⟩
abbrev cX3_constant : ByteArray := prog_3_method_20_code
def yX3_constant : MethodName := ⟨RX3, "constant", "(IIJ)V"⟩
abbrev cX3_property : ByteArray := prog_3_method_19_code
def yX3_property : MethodName := ⟨RX3, "property", "(II)V"⟩
abbrev cX3_loop : ByteArray := prog_3_method_15_code
def yX3_loop : MethodName := ⟨RX3, "loop", "(II)V"⟩
abbrev cX3_land : ByteArray := prog_3_method_16_code
def yX3_land : MethodName := ⟨RX3, "land", "(I)V"⟩
abbrev cX3_named : ByteArray := prog_3_method_7_code
def yX3_named : MethodName := ⟨RX3, "named", "(Ljava/lang/String;)I"⟩
abbrev cX3_isNewest : ByteArray := prog_3_method_9_code
def yX3_isNewest : MethodName := ⟨RX3, "isNewest", "(I)Z"⟩
abbrev cX3_sort : ByteArray := prog_3_method_22_code
def yX3_sort : MethodName := ⟨RX3, "sort", "(II)I"⟩
theorem q229 : (Jvm.Cond.initialized "GraftTrees$Forest") ∈ lw_all := lw_g (lw_at lw_m1 3 rfl) rfl
theorem q269 : (Jvm.Cond.fieldLinkNest "GraftTrees$Forest" (187 : Nat) "GraftTrees$Heap" "letters" "[B" "GraftTrees") ∈ lw_tbl := lw_at lw_m1 43 rfl
theorem q274 : (Jvm.Cond.fieldLinkNest "GraftTrees$Forest" (190 : Nat) "GraftTrees$Heap" "from" "[I" "GraftTrees") ∈ lw_tbl := lw_at lw_m1 48 rfl
theorem q279 : (Jvm.Cond.fieldLinkNest "GraftTrees$Forest" (185 : Nat) "GraftTrees$Heap" "size" "[I" "GraftTrees") ∈ lw_tbl := lw_at lw_m1 53 rfl
theorem q332 : (Jvm.Cond.instantiable "GraftTrees$Forest" (42 : Nat)) ∈ lw_all := lw_g (lw_at lw_m1 106 rfl) rfl
theorem q334 : (Jvm.Cond.instanceMethod ({ cls := "GraftTrees$Forest", name := "<init>", desc := "(LGraftTrees$Heap;)V" } : Jvm.MethodName)) ∈ lw_all := lw_g (lw_at lw_m1 108 rfl) rfl
theorem q335 : (Jvm.Cond.code ({ cls := "GraftTrees$Forest", name := "<init>", desc := "(LGraftTrees$Heap;)V" } : Jvm.MethodName) prog_3_method_1_code (2 : Nat) (Option.none : Option Jvm.ClassFile.FieldType)) ∈ lw_all := lw_g (lw_at lw_m1 109 rfl) rfl
theorem q336 : (Jvm.Cond.methodLink "GraftTrees$Forest" (3 : Nat) ({ cls := "java/lang/Object", name := "<init>", desc := "()V" } : Jvm.MethodName)) ∈ lw_all := lw_g (lw_at lw_m1 110 rfl) rfl
theorem q337 : (Jvm.Cond.constant "GraftTrees$Forest" (43 : Nat) (144000 : Int32)) ∈ lw_all := lw_g (lw_at lw_m1 111 rfl) rfl
theorem q338 : (Jvm.Cond.constant "GraftTrees$Forest" (47 : Nat) (164000 : Int32)) ∈ lw_all := lw_g (lw_at lw_m1 112 rfl) rfl
theorem q339 : (Jvm.Cond.classLink "GraftTrees$Forest" (96 : Nat) "GraftTrees$Whole") ∈ lw_all := lw_g (lw_at lw_m1 113 rfl) rfl
theorem q341 : (Jvm.Cond.methodLinkNest "GraftTrees$Forest" (98 : Nat) ({ cls := "GraftTrees$Whole", name := "<init>", desc := "()V" } : Jvm.MethodName) "GraftTrees") ∈ lw_tbl := lw_at lw_m1 115 rfl
theorem q352 : (Jvm.Cond.fieldLinkNest "GraftTrees$Forest" (295 : Nat) "GraftTrees$Whole" "told" "J" "GraftTrees") ∈ lw_tbl := lw_at lw_m1 126 rfl
theorem q362 : (Jvm.Cond.classLink "GraftTrees$Forest" (103 : Nat) "java/lang/String") ∈ lw_all := lw_g (lw_at lw_m1 136 rfl) rfl
theorem q364 : (Jvm.Cond.stringRef "GraftTrees$Forest" (105 : Nat) "number") ∈ lw_tbl := lw_at lw_m1 138 rfl
theorem q365 : (Jvm.Cond.stringRef "GraftTrees$Forest" (107 : Nat) "string") ∈ lw_tbl := lw_at lw_m1 139 rfl
theorem q366 : (Jvm.Cond.stringRef "GraftTrees$Forest" (109 : Nat) "truth") ∈ lw_tbl := lw_at lw_m1 140 rfl
theorem q367 : (Jvm.Cond.stringRef "GraftTrees$Forest" (111 : Nat) "null") ∈ lw_tbl := lw_at lw_m1 141 rfl
theorem q368 : (Jvm.Cond.stringRef "GraftTrees$Forest" (113 : Nat) "function") ∈ lw_tbl := lw_at lw_m1 142 rfl
theorem q369 : (Jvm.Cond.stringRef "GraftTrees$Forest" (115 : Nat) "object") ∈ lw_tbl := lw_at lw_m1 143 rfl
theorem q370 : (Jvm.Cond.methodLink "GraftTrees$Forest" (132 : Nat) ({ cls := "GraftTrees$Forest", name := "clear", desc := "()V" } : Jvm.MethodName)) ∈ lw_all := lw_g (lw_at lw_m1 144 rfl) rfl
theorem q371 : (Jvm.Cond.instanceMethod ({ cls := "GraftTrees$Forest", name := "clear", desc := "()V" } : Jvm.MethodName)) ∈ lw_all := lw_g (lw_at lw_m1 145 rfl) rfl
theorem q372 : (Jvm.Cond.selects "GraftTrees$Forest" ({ cls := "GraftTrees$Forest", name := "clear", desc := "()V" } : Jvm.MethodName) ({ cls := "GraftTrees$Forest", name := "clear", desc := "()V" } : Jvm.MethodName)) ∈ lw_all := lw_g (lw_at lw_m1 146 rfl) rfl
theorem q373 : (Jvm.Cond.code ({ cls := "GraftTrees$Forest", name := "clear", desc := "()V" } : Jvm.MethodName) prog_3_method_2_code (2 : Nat) (Option.none : Option Jvm.ClassFile.FieldType)) ∈ lw_all := lw_g (lw_at lw_m1 147 rfl) rfl
theorem q374 : (Jvm.Cond.methodLink "GraftTrees$Forest" (135 : Nat) ({ cls := "GraftTrees$Heap", name := "clear", desc := "()V" } : Jvm.MethodName)) ∈ lw_all := lw_g (lw_at lw_m1 148 rfl) rfl
theorem q382 : (Jvm.Cond.stringRef "GraftTrees$Forest" (151 : Nat) "print") ∈ lw_tbl := lw_at lw_m1 156 rfl
theorem q383 : (Jvm.Cond.methodLink "GraftTrees$Forest" (153 : Nat) ({ cls := "GraftTrees$Forest", name := "plant", desc := "(Ljava/lang/String;)V" } : Jvm.MethodName)) ∈ lw_all := lw_g (lw_at lw_m1 157 rfl) rfl
theorem q384 : (Jvm.Cond.privateMethod ({ cls := "GraftTrees$Forest", name := "plant", desc := "(Ljava/lang/String;)V" } : Jvm.MethodName)) ∈ lw_tbl := lw_at lw_m1 158 rfl
theorem q385 : (Jvm.Cond.instanceMethod ({ cls := "GraftTrees$Forest", name := "plant", desc := "(Ljava/lang/String;)V" } : Jvm.MethodName)) ∈ lw_all := lw_g (lw_at lw_m1 159 rfl) rfl
theorem q386 : (Jvm.Cond.code ({ cls := "GraftTrees$Forest", name := "plant", desc := "(Ljava/lang/String;)V" } : Jvm.MethodName) prog_3_method_3_code (3 : Nat) (Option.none : Option Jvm.ClassFile.FieldType)) ∈ lw_all := lw_g (lw_at lw_m1 160 rfl) rfl
theorem q387 : (Jvm.Cond.methodLink "GraftTrees$Forest" (166 : Nat) ({ cls := "GraftTrees$Forest", name := "spell", desc := "(Ljava/lang/String;)I" } : Jvm.MethodName)) ∈ lw_all := lw_g (lw_at lw_m1 161 rfl) rfl
theorem q388 : (Jvm.Cond.privateMethod ({ cls := "GraftTrees$Forest", name := "spell", desc := "(Ljava/lang/String;)I" } : Jvm.MethodName)) ∈ lw_tbl := lw_at lw_m1 162 rfl
theorem q389 : (Jvm.Cond.instanceMethod ({ cls := "GraftTrees$Forest", name := "spell", desc := "(Ljava/lang/String;)I" } : Jvm.MethodName)) ∈ lw_all := lw_g (lw_at lw_m1 163 rfl) rfl
theorem q390 : (Jvm.Cond.code ({ cls := "GraftTrees$Forest", name := "spell", desc := "(Ljava/lang/String;)I" } : Jvm.MethodName) prog_3_method_4_code (3 : Nat) (Option.some Jvm.ClassFile.FieldType.int)) ∈ lw_all := lw_g (lw_at lw_m1 164 rfl) rfl
theorem q391 : (Jvm.Cond.methodLink "GraftTrees$Forest" (176 : Nat) ({ cls := "java/lang/String", name := "length", desc := "()I" } : Jvm.MethodName)) ∈ lw_all := lw_g (lw_at lw_m1 165 rfl) rfl
theorem q401 : (Jvm.Cond.methodLink "GraftTrees$Forest" (179 : Nat) ({ cls := "java/lang/String", name := "charAt", desc := "(I)C" } : Jvm.MethodName)) ∈ lw_all := lw_g (lw_at lw_m1 175 rfl) rfl
theorem q439 : (Jvm.Cond.methodLink "GraftTrees$Forest" (169 : Nat) ({ cls := "GraftTrees$Forest", name := "function", desc := "([BII)I" } : Jvm.MethodName)) ∈ lw_all := lw_g (lw_at lw_m1 213 rfl) rfl
theorem q440 : (Jvm.Cond.privateMethod ({ cls := "GraftTrees$Forest", name := "function", desc := "([BII)I" } : Jvm.MethodName)) ∈ lw_tbl := lw_at lw_m1 214 rfl
theorem q441 : (Jvm.Cond.instanceMethod ({ cls := "GraftTrees$Forest", name := "function", desc := "([BII)I" } : Jvm.MethodName)) ∈ lw_all := lw_g (lw_at lw_m1 215 rfl) rfl
theorem q442 : (Jvm.Cond.code ({ cls := "GraftTrees$Forest", name := "function", desc := "([BII)I" } : Jvm.MethodName) prog_3_method_6_code (6 : Nat) (Option.some Jvm.ClassFile.FieldType.int)) ∈ lw_all := lw_g (lw_at lw_m1 216 rfl) rfl
theorem q443 : (Jvm.Cond.methodLink "GraftTrees$Forest" (183 : Nat) ({ cls := "GraftTrees$Heap", name := "string", desc := "([BII)I" } : Jvm.MethodName)) ∈ lw_all := lw_g (lw_at lw_m1 217 rfl) rfl
theorem q454 : (Jvm.Cond.methodLink "GraftTrees$Forest" (172 : Nat) ({ cls := "GraftTrees$Forest", name := "rootOf", desc := "(I)I" } : Jvm.MethodName)) ∈ lw_all := lw_g (lw_at lw_m1 228 rfl) rfl
theorem q455 : (Jvm.Cond.privateMethod ({ cls := "GraftTrees$Forest", name := "rootOf", desc := "(I)I" } : Jvm.MethodName)) ∈ lw_tbl := lw_at lw_m1 229 rfl
theorem q456 : (Jvm.Cond.instanceMethod ({ cls := "GraftTrees$Forest", name := "rootOf", desc := "(I)I" } : Jvm.MethodName)) ∈ lw_all := lw_g (lw_at lw_m1 230 rfl) rfl
theorem q457 : (Jvm.Cond.code ({ cls := "GraftTrees$Forest", name := "rootOf", desc := "(I)I" } : Jvm.MethodName) prog_3_method_8_code (4 : Nat) (Option.some Jvm.ClassFile.FieldType.int)) ∈ lw_all := lw_g (lw_at lw_m1 231 rfl) rfl
theorem q458 : (Jvm.Cond.stringRef "GraftTrees$Forest" (157 : Nat) "new") ∈ lw_tbl := lw_at lw_m1 232 rfl
theorem q459 : (Jvm.Cond.stringRef "GraftTrees$Forest" (159 : Nat) "kind") ∈ lw_tbl := lw_at lw_m1 233 rfl
theorem q460 : (Jvm.Cond.stringRef "GraftTrees$Forest" (160 : Nat) "define") ∈ lw_tbl := lw_at lw_m1 234 rfl
theorem q461 : (Jvm.Cond.methodLink "GraftTrees$Forest" (162 : Nat) ({ cls := "GraftTrees$Forest", name := "text", desc := "(Ljava/lang/String;)I" } : Jvm.MethodName)) ∈ lw_all := lw_g (lw_at lw_m1 235 rfl) rfl
theorem q462 : (Jvm.Cond.privateMethod ({ cls := "GraftTrees$Forest", name := "text", desc := "(Ljava/lang/String;)I" } : Jvm.MethodName)) ∈ lw_tbl := lw_at lw_m1 236 rfl
theorem q463 : (Jvm.Cond.instanceMethod ({ cls := "GraftTrees$Forest", name := "text", desc := "(Ljava/lang/String;)I" } : Jvm.MethodName)) ∈ lw_all := lw_g (lw_at lw_m1 237 rfl) rfl
theorem q464 : (Jvm.Cond.code ({ cls := "GraftTrees$Forest", name := "text", desc := "(Ljava/lang/String;)I" } : Jvm.MethodName) prog_3_method_5_code (3 : Nat) (Option.some Jvm.ClassFile.FieldType.int)) ∈ lw_all := lw_g (lw_at lw_m1 238 rfl) rfl
theorem q465 : (Jvm.Cond.fieldLink "GraftTrees$Forest" (128 : Nat) "GraftTrees$Forest" "heap" "LGraftTrees$Heap;") ∈ lw_all := lw_g (lw_at lw_m1 239 rfl) rfl
theorem q466 : (Jvm.Cond.fieldLink "GraftTrees$Forest" (11 : Nat) "GraftTrees$Forest" "kind" "[I") ∈ lw_all := lw_g (lw_at lw_m2 0 rfl) rfl
theorem q470 : (Jvm.Cond.fieldLink "GraftTrees$Forest" (15 : Nat) "GraftTrees$Forest" "token" "[I") ∈ lw_all := lw_g (lw_at lw_m2 4 rfl) rfl
theorem q472 : (Jvm.Cond.fieldLink "GraftTrees$Forest" (18 : Nat) "GraftTrees$Forest" "state" "[I") ∈ lw_all := lw_g (lw_at lw_m2 6 rfl) rfl
theorem q476 : (Jvm.Cond.fieldLink "GraftTrees$Forest" (21 : Nat) "GraftTrees$Forest" "changes" "[I") ∈ lw_all := lw_g (lw_at lw_m2 10 rfl) rfl
theorem q479 : (Jvm.Cond.fieldLink "GraftTrees$Forest" (24 : Nat) "GraftTrees$Forest" "local" "[I") ∈ lw_all := lw_g (lw_at lw_m2 13 rfl) rfl
theorem q482 : (Jvm.Cond.fieldLink "GraftTrees$Forest" (27 : Nat) "GraftTrees$Forest" "many" "[I") ∈ lw_all := lw_g (lw_at lw_m2 16 rfl) rfl
theorem q484 : (Jvm.Cond.fieldLink "GraftTrees$Forest" (30 : Nat) "GraftTrees$Forest" "end" "[I") ∈ lw_all := lw_g (lw_at lw_m2 18 rfl) rfl
theorem q486 : (Jvm.Cond.fieldLink "GraftTrees$Forest" (33 : Nat) "GraftTrees$Forest" "constKind" "[I") ∈ lw_all := lw_g (lw_at lw_m2 20 rfl) rfl
theorem q489 : (Jvm.Cond.fieldLink "GraftTrees$Forest" (36 : Nat) "GraftTrees$Forest" "constant" "[J") ∈ lw_all := lw_g (lw_at lw_m2 23 rfl) rfl
theorem q491 : (Jvm.Cond.fieldLink "GraftTrees$Forest" (40 : Nat) "GraftTrees$Forest" "entries" "[I") ∈ lw_all := lw_g (lw_at lw_m2 25 rfl) rfl
theorem q495 : (Jvm.Cond.fieldLink "GraftTrees$Forest" (44 : Nat) "GraftTrees$Forest" "entry" "[I") ∈ lw_all := lw_g (lw_at lw_m2 29 rfl) rfl
theorem q499 : (Jvm.Cond.fieldLink "GraftTrees$Forest" (138 : Nat) "GraftTrees$Forest" "nodes" "I") ∈ lw_all := lw_g (lw_at lw_m2 33 rfl) rfl
theorem q500 : (Jvm.Cond.fieldLink "GraftTrees$Forest" (48 : Nat) "GraftTrees$Forest" "op" "[I") ∈ lw_all := lw_g (lw_at lw_m2 34 rfl) rfl
theorem q503 : (Jvm.Cond.fieldLink "GraftTrees$Forest" (51 : Nat) "GraftTrees$Forest" "to" "[I") ∈ lw_all := lw_g (lw_at lw_m2 37 rfl) rfl
theorem q506 : (Jvm.Cond.fieldLink "GraftTrees$Forest" (54 : Nat) "GraftTrees$Forest" "of" "[I") ∈ lw_all := lw_g (lw_at lw_m2 40 rfl) rfl
theorem q509 : (Jvm.Cond.fieldLink "GraftTrees$Forest" (142 : Nat) "GraftTrees$Forest" "size" "I") ∈ lw_all := lw_g (lw_at lw_m2 43 rfl) rfl
theorem q510 : (Jvm.Cond.fieldLink "GraftTrees$Forest" (57 : Nat) "GraftTrees$Forest" "funName" "[I") ∈ lw_all := lw_g (lw_at lw_m2 44 rfl) rfl
theorem q513 : (Jvm.Cond.fieldLink "GraftTrees$Forest" (60 : Nat) "GraftTrees$Forest" "newest" "[I") ∈ lw_all := lw_g (lw_at lw_m2 47 rfl) rfl
theorem q516 : (Jvm.Cond.fieldLink "GraftTrees$Forest" (145 : Nat) "GraftTrees$Forest" "funs" "I") ∈ lw_all := lw_g (lw_at lw_m2 50 rfl) rfl
theorem q517 : (Jvm.Cond.fieldLink "GraftTrees$Forest" (63 : Nat) "GraftTrees$Forest" "fun" "[I") ∈ lw_all := lw_g (lw_at lw_m2 51 rfl) rfl
theorem q521 : (Jvm.Cond.fieldLink "GraftTrees$Forest" (66 : Nat) "GraftTrees$Forest" "from" "[I") ∈ lw_all := lw_g (lw_at lw_m2 55 rfl) rfl
theorem q525 : (Jvm.Cond.fieldLink "GraftTrees$Forest" (69 : Nat) "GraftTrees$Forest" "count" "[I") ∈ lw_all := lw_g (lw_at lw_m2 59 rfl) rfl
theorem q528 : (Jvm.Cond.fieldLink "GraftTrees$Forest" (72 : Nat) "GraftTrees$Forest" "begin" "[I") ∈ lw_all := lw_g (lw_at lw_m2 62 rfl) rfl
theorem q531 : (Jvm.Cond.fieldLink "GraftTrees$Forest" (75 : Nat) "GraftTrees$Forest" "length" "[I") ∈ lw_all := lw_g (lw_at lw_m2 65 rfl) rfl
theorem q533 : (Jvm.Cond.fieldLink "GraftTrees$Forest" (78 : Nat) "GraftTrees$Forest" "params" "[I") ∈ lw_all := lw_g (lw_at lw_m2 67 rfl) rfl
theorem q535 : (Jvm.Cond.fieldLink "GraftTrees$Forest" (81 : Nat) "GraftTrees$Forest" "locals" "[I") ∈ lw_all := lw_g (lw_at lw_m2 69 rfl) rfl
theorem q538 : (Jvm.Cond.fieldLink "GraftTrees$Forest" (84 : Nat) "GraftTrees$Forest" "heat" "[I") ∈ lw_all := lw_g (lw_at lw_m2 72 rfl) rfl
theorem q541 : (Jvm.Cond.fieldLink "GraftTrees$Forest" (87 : Nat) "GraftTrees$Forest" "made" "[I") ∈ lw_all := lw_g (lw_at lw_m2 75 rfl) rfl
theorem q544 : (Jvm.Cond.fieldLink "GraftTrees$Forest" (90 : Nat) "GraftTrees$Forest" "valid" "[I") ∈ lw_all := lw_g (lw_at lw_m2 78 rfl) rfl
theorem q548 : (Jvm.Cond.fieldLink "GraftTrees$Forest" (93 : Nat) "GraftTrees$Forest" "sorts" "[I") ∈ lw_all := lw_g (lw_at lw_m2 82 rfl) rfl
theorem q550 : (Jvm.Cond.fieldLink "GraftTrees$Forest" (148 : Nat) "GraftTrees$Forest" "roots" "I") ∈ lw_all := lw_g (lw_at lw_m2 84 rfl) rfl
theorem q553 : (Jvm.Cond.fieldLink "GraftTrees$Forest" (191 : Nat) "GraftTrees$Forest" "p" "LGraftTrees$Parser;") ∈ lw_all := lw_g (lw_at lw_m2 87 rfl) rfl
theorem q554 : (Jvm.Cond.fieldLink "GraftTrees$Forest" (195 : Nat) "GraftTrees$Forest" "row" "[B") ∈ lw_all := lw_g (lw_at lw_m2 88 rfl) rfl
theorem q555 : (Jvm.Cond.fieldLink "GraftTrees$Forest" (198 : Nat) "GraftTrees$Forest" "start" "I") ∈ lw_all := lw_g (lw_at lw_m2 89 rfl) rfl
theorem q556 : (Jvm.Cond.fieldLink "GraftTrees$Forest" (209 : Nat) "GraftTrees$Forest" "root" "I") ∈ lw_all := lw_g (lw_at lw_m2 90 rfl) rfl
theorem q557 : (Jvm.Cond.fieldLink "GraftTrees$Forest" (224 : Nat) "GraftTrees$Forest" "breaks" "I") ∈ lw_all := lw_g (lw_at lw_m2 91 rfl) rfl
theorem q558 : (Jvm.Cond.fieldLink "GraftTrees$Forest" (227 : Nat) "GraftTrees$Forest" "again" "I") ∈ lw_all := lw_g (lw_at lw_m2 92 rfl) rfl
theorem q559 : (Jvm.Cond.fieldLink "GraftTrees$Forest" (99 : Nat) "GraftTrees$Forest" "whole" "LGraftTrees$Whole;") ∈ lw_all := lw_g (lw_at lw_m2 93 rfl) rfl
theorem q560 : (Jvm.Cond.fieldLink "GraftTrees$Forest" (117 : Nat) "GraftTrees$Forest" "kinds" "[Ljava/lang/String;") ∈ lw_all := lw_g (lw_at lw_m2 94 rfl) rfl
theorem q561 : (Jvm.Cond.fieldLink "GraftTrees$Forest" (121 : Nat) "GraftTrees$Forest" "kindName" "[I") ∈ lw_all := lw_g (lw_at lw_m2 95 rfl) rfl
theorem q563 : (Jvm.Cond.fieldLink "GraftTrees$Forest" (124 : Nat) "GraftTrees$Forest" "spelt" "[B") ∈ lw_all := lw_g (lw_at lw_m2 97 rfl) rfl
theorem q564 : (Jvm.Cond.laysFinal "GraftTrees$Forest" "GraftTrees$Forest" "heap" "LGraftTrees$Heap;") ∈ lw_all := lw_g (lw_at lw_m2 98 rfl) rfl
theorem q565 : (Jvm.Cond.soleField "GraftTrees$Forest" "heap") ∈ lw_all := lw_g (lw_at lw_m2 99 rfl) rfl
theorem q566 : (Jvm.Cond.laysFinal "GraftTrees$Forest" "GraftTrees$Forest" "kind" "[I") ∈ lw_all := lw_g (lw_at lw_m2 100 rfl) rfl
theorem q567 : (Jvm.Cond.soleField "GraftTrees$Forest" "kind") ∈ lw_all := lw_g (lw_at lw_m2 101 rfl) rfl
theorem q568 : (Jvm.Cond.laysFinal "GraftTrees$Forest" "GraftTrees$Forest" "token" "[I") ∈ lw_all := lw_g (lw_at lw_m2 102 rfl) rfl
theorem q569 : (Jvm.Cond.soleField "GraftTrees$Forest" "token") ∈ lw_all := lw_g (lw_at lw_m2 103 rfl) rfl
theorem q570 : (Jvm.Cond.laysFinal "GraftTrees$Forest" "GraftTrees$Forest" "state" "[I") ∈ lw_all := lw_g (lw_at lw_m2 104 rfl) rfl
theorem q571 : (Jvm.Cond.soleField "GraftTrees$Forest" "state") ∈ lw_all := lw_g (lw_at lw_m2 105 rfl) rfl
theorem q572 : (Jvm.Cond.laysFinal "GraftTrees$Forest" "GraftTrees$Forest" "changes" "[I") ∈ lw_all := lw_g (lw_at lw_m2 106 rfl) rfl
theorem q573 : (Jvm.Cond.soleField "GraftTrees$Forest" "changes") ∈ lw_all := lw_g (lw_at lw_m2 107 rfl) rfl
theorem q574 : (Jvm.Cond.laysFinal "GraftTrees$Forest" "GraftTrees$Forest" "local" "[I") ∈ lw_all := lw_g (lw_at lw_m2 108 rfl) rfl
theorem q575 : (Jvm.Cond.soleField "GraftTrees$Forest" "local") ∈ lw_all := lw_g (lw_at lw_m2 109 rfl) rfl
theorem q576 : (Jvm.Cond.laysFinal "GraftTrees$Forest" "GraftTrees$Forest" "many" "[I") ∈ lw_all := lw_g (lw_at lw_m2 110 rfl) rfl
theorem q577 : (Jvm.Cond.soleField "GraftTrees$Forest" "many") ∈ lw_all := lw_g (lw_at lw_m2 111 rfl) rfl
theorem q578 : (Jvm.Cond.laysFinal "GraftTrees$Forest" "GraftTrees$Forest" "end" "[I") ∈ lw_all := lw_g (lw_at lw_m2 112 rfl) rfl
theorem q579 : (Jvm.Cond.soleField "GraftTrees$Forest" "end") ∈ lw_all := lw_g (lw_at lw_m2 113 rfl) rfl
theorem q580 : (Jvm.Cond.laysFinal "GraftTrees$Forest" "GraftTrees$Forest" "constKind" "[I") ∈ lw_all := lw_g (lw_at lw_m2 114 rfl) rfl
theorem q581 : (Jvm.Cond.soleField "GraftTrees$Forest" "constKind") ∈ lw_all := lw_g (lw_at lw_m2 115 rfl) rfl
theorem q582 : (Jvm.Cond.laysFinal "GraftTrees$Forest" "GraftTrees$Forest" "constant" "[J") ∈ lw_all := lw_g (lw_at lw_m2 116 rfl) rfl
theorem q583 : (Jvm.Cond.soleField "GraftTrees$Forest" "constant") ∈ lw_all := lw_g (lw_at lw_m2 117 rfl) rfl
theorem q584 : (Jvm.Cond.laysFinal "GraftTrees$Forest" "GraftTrees$Forest" "entries" "[I") ∈ lw_all := lw_g (lw_at lw_m2 118 rfl) rfl
theorem q585 : (Jvm.Cond.soleField "GraftTrees$Forest" "entries") ∈ lw_all := lw_g (lw_at lw_m2 119 rfl) rfl
theorem q586 : (Jvm.Cond.laysFinal "GraftTrees$Forest" "GraftTrees$Forest" "entry" "[I") ∈ lw_all := lw_g (lw_at lw_m2 120 rfl) rfl
theorem q587 : (Jvm.Cond.soleField "GraftTrees$Forest" "entry") ∈ lw_all := lw_g (lw_at lw_m2 121 rfl) rfl
theorem q588 : (Jvm.Cond.lays "GraftTrees$Forest" "GraftTrees$Forest" "nodes" "I") ∈ lw_all := lw_g (lw_at lw_m2 122 rfl) rfl
theorem q589 : (Jvm.Cond.soleField "GraftTrees$Forest" "nodes") ∈ lw_all := lw_g (lw_at lw_m2 123 rfl) rfl
theorem q590 : (Jvm.Cond.laysFinal "GraftTrees$Forest" "GraftTrees$Forest" "op" "[I") ∈ lw_all := lw_g (lw_at lw_m2 124 rfl) rfl
theorem q591 : (Jvm.Cond.soleField "GraftTrees$Forest" "op") ∈ lw_all := lw_g (lw_at lw_m2 125 rfl) rfl
theorem q592 : (Jvm.Cond.laysFinal "GraftTrees$Forest" "GraftTrees$Forest" "to" "[I") ∈ lw_all := lw_g (lw_at lw_m2 126 rfl) rfl
theorem q593 : (Jvm.Cond.soleField "GraftTrees$Forest" "to") ∈ lw_all := lw_g (lw_at lw_m2 127 rfl) rfl
theorem q594 : (Jvm.Cond.laysFinal "GraftTrees$Forest" "GraftTrees$Forest" "of" "[I") ∈ lw_all := lw_g (lw_at lw_m2 128 rfl) rfl
theorem q595 : (Jvm.Cond.soleField "GraftTrees$Forest" "of") ∈ lw_all := lw_g (lw_at lw_m2 129 rfl) rfl
theorem q596 : (Jvm.Cond.lays "GraftTrees$Forest" "GraftTrees$Forest" "size" "I") ∈ lw_all := lw_g (lw_at lw_m2 130 rfl) rfl
theorem q597 : (Jvm.Cond.soleField "GraftTrees$Forest" "size") ∈ lw_all := lw_g (lw_at lw_m2 131 rfl) rfl
theorem q598 : (Jvm.Cond.laysFinal "GraftTrees$Forest" "GraftTrees$Forest" "funName" "[I") ∈ lw_all := lw_g (lw_at lw_m2 132 rfl) rfl
theorem q599 : (Jvm.Cond.soleField "GraftTrees$Forest" "funName") ∈ lw_all := lw_g (lw_at lw_m2 133 rfl) rfl
theorem q600 : (Jvm.Cond.laysFinal "GraftTrees$Forest" "GraftTrees$Forest" "newest" "[I") ∈ lw_all := lw_g (lw_at lw_m2 134 rfl) rfl
theorem q601 : (Jvm.Cond.soleField "GraftTrees$Forest" "newest") ∈ lw_all := lw_g (lw_at lw_m2 135 rfl) rfl
theorem q602 : (Jvm.Cond.lays "GraftTrees$Forest" "GraftTrees$Forest" "funs" "I") ∈ lw_all := lw_g (lw_at lw_m2 136 rfl) rfl
theorem q603 : (Jvm.Cond.soleField "GraftTrees$Forest" "funs") ∈ lw_all := lw_g (lw_at lw_m2 137 rfl) rfl
theorem q604 : (Jvm.Cond.laysFinal "GraftTrees$Forest" "GraftTrees$Forest" "fun" "[I") ∈ lw_all := lw_g (lw_at lw_m2 138 rfl) rfl
theorem q605 : (Jvm.Cond.soleField "GraftTrees$Forest" "fun") ∈ lw_all := lw_g (lw_at lw_m2 139 rfl) rfl
theorem q606 : (Jvm.Cond.laysFinal "GraftTrees$Forest" "GraftTrees$Forest" "from" "[I") ∈ lw_all := lw_g (lw_at lw_m2 140 rfl) rfl
theorem q607 : (Jvm.Cond.soleField "GraftTrees$Forest" "from") ∈ lw_all := lw_g (lw_at lw_m2 141 rfl) rfl
theorem q608 : (Jvm.Cond.laysFinal "GraftTrees$Forest" "GraftTrees$Forest" "count" "[I") ∈ lw_all := lw_g (lw_at lw_m2 142 rfl) rfl
theorem q609 : (Jvm.Cond.soleField "GraftTrees$Forest" "count") ∈ lw_all := lw_g (lw_at lw_m2 143 rfl) rfl
theorem q610 : (Jvm.Cond.laysFinal "GraftTrees$Forest" "GraftTrees$Forest" "begin" "[I") ∈ lw_all := lw_g (lw_at lw_m2 144 rfl) rfl
theorem q611 : (Jvm.Cond.soleField "GraftTrees$Forest" "begin") ∈ lw_all := lw_g (lw_at lw_m2 145 rfl) rfl
theorem q612 : (Jvm.Cond.laysFinal "GraftTrees$Forest" "GraftTrees$Forest" "length" "[I") ∈ lw_all := lw_g (lw_at lw_m2 146 rfl) rfl
theorem q613 : (Jvm.Cond.soleField "GraftTrees$Forest" "length") ∈ lw_all := lw_g (lw_at lw_m2 147 rfl) rfl
theorem q614 : (Jvm.Cond.laysFinal "GraftTrees$Forest" "GraftTrees$Forest" "params" "[I") ∈ lw_all := lw_g (lw_at lw_m2 148 rfl) rfl
theorem q615 : (Jvm.Cond.soleField "GraftTrees$Forest" "params") ∈ lw_all := lw_g (lw_at lw_m2 149 rfl) rfl
theorem q616 : (Jvm.Cond.laysFinal "GraftTrees$Forest" "GraftTrees$Forest" "locals" "[I") ∈ lw_all := lw_g (lw_at lw_m2 150 rfl) rfl
theorem q617 : (Jvm.Cond.soleField "GraftTrees$Forest" "locals") ∈ lw_all := lw_g (lw_at lw_m2 151 rfl) rfl
theorem q618 : (Jvm.Cond.laysFinal "GraftTrees$Forest" "GraftTrees$Forest" "heat" "[I") ∈ lw_all := lw_g (lw_at lw_m2 152 rfl) rfl
theorem q619 : (Jvm.Cond.soleField "GraftTrees$Forest" "heat") ∈ lw_all := lw_g (lw_at lw_m2 153 rfl) rfl
theorem q620 : (Jvm.Cond.laysFinal "GraftTrees$Forest" "GraftTrees$Forest" "made" "[I") ∈ lw_all := lw_g (lw_at lw_m2 154 rfl) rfl
theorem q621 : (Jvm.Cond.soleField "GraftTrees$Forest" "made") ∈ lw_all := lw_g (lw_at lw_m2 155 rfl) rfl
theorem q622 : (Jvm.Cond.laysFinal "GraftTrees$Forest" "GraftTrees$Forest" "valid" "[I") ∈ lw_all := lw_g (lw_at lw_m2 156 rfl) rfl
theorem q623 : (Jvm.Cond.soleField "GraftTrees$Forest" "valid") ∈ lw_all := lw_g (lw_at lw_m2 157 rfl) rfl
theorem q624 : (Jvm.Cond.laysFinal "GraftTrees$Forest" "GraftTrees$Forest" "sorts" "[I") ∈ lw_all := lw_g (lw_at lw_m2 158 rfl) rfl
theorem q625 : (Jvm.Cond.soleField "GraftTrees$Forest" "sorts") ∈ lw_all := lw_g (lw_at lw_m2 159 rfl) rfl
theorem q626 : (Jvm.Cond.lays "GraftTrees$Forest" "GraftTrees$Forest" "roots" "I") ∈ lw_all := lw_g (lw_at lw_m2 160 rfl) rfl
theorem q627 : (Jvm.Cond.soleField "GraftTrees$Forest" "roots") ∈ lw_all := lw_g (lw_at lw_m2 161 rfl) rfl
theorem q628 : (Jvm.Cond.lays "GraftTrees$Forest" "GraftTrees$Forest" "p" "LGraftTrees$Parser;") ∈ lw_all := lw_g (lw_at lw_m2 162 rfl) rfl
theorem q629 : (Jvm.Cond.soleField "GraftTrees$Forest" "p") ∈ lw_all := lw_g (lw_at lw_m2 163 rfl) rfl
theorem q630 : (Jvm.Cond.lays "GraftTrees$Forest" "GraftTrees$Forest" "row" "[B") ∈ lw_all := lw_g (lw_at lw_m2 164 rfl) rfl
theorem q631 : (Jvm.Cond.soleField "GraftTrees$Forest" "row") ∈ lw_all := lw_g (lw_at lw_m2 165 rfl) rfl
theorem q632 : (Jvm.Cond.lays "GraftTrees$Forest" "GraftTrees$Forest" "start" "I") ∈ lw_all := lw_g (lw_at lw_m2 166 rfl) rfl
theorem q633 : (Jvm.Cond.soleField "GraftTrees$Forest" "start") ∈ lw_all := lw_g (lw_at lw_m2 167 rfl) rfl
theorem q634 : (Jvm.Cond.lays "GraftTrees$Forest" "GraftTrees$Forest" "root" "I") ∈ lw_all := lw_g (lw_at lw_m2 168 rfl) rfl
theorem q635 : (Jvm.Cond.soleField "GraftTrees$Forest" "root") ∈ lw_all := lw_g (lw_at lw_m2 169 rfl) rfl
theorem q636 : (Jvm.Cond.lays "GraftTrees$Forest" "GraftTrees$Forest" "breaks" "I") ∈ lw_all := lw_g (lw_at lw_m2 170 rfl) rfl
theorem q637 : (Jvm.Cond.soleField "GraftTrees$Forest" "breaks") ∈ lw_all := lw_g (lw_at lw_m2 171 rfl) rfl
theorem q638 : (Jvm.Cond.lays "GraftTrees$Forest" "GraftTrees$Forest" "again" "I") ∈ lw_all := lw_g (lw_at lw_m2 172 rfl) rfl
theorem q639 : (Jvm.Cond.soleField "GraftTrees$Forest" "again") ∈ lw_all := lw_g (lw_at lw_m2 173 rfl) rfl
theorem q640 : (Jvm.Cond.laysFinal "GraftTrees$Forest" "GraftTrees$Forest" "whole" "LGraftTrees$Whole;") ∈ lw_all := lw_g (lw_at lw_m2 174 rfl) rfl
theorem q641 : (Jvm.Cond.soleField "GraftTrees$Forest" "whole") ∈ lw_all := lw_g (lw_at lw_m2 175 rfl) rfl
theorem q642 : (Jvm.Cond.laysFinal "GraftTrees$Forest" "GraftTrees$Forest" "kinds" "[Ljava/lang/String;") ∈ lw_all := lw_g (lw_at lw_m2 176 rfl) rfl
theorem q643 : (Jvm.Cond.soleField "GraftTrees$Forest" "kinds") ∈ lw_all := lw_g (lw_at lw_m2 177 rfl) rfl
theorem q644 : (Jvm.Cond.laysFinal "GraftTrees$Forest" "GraftTrees$Forest" "kindName" "[I") ∈ lw_all := lw_g (lw_at lw_m2 178 rfl) rfl
theorem q645 : (Jvm.Cond.soleField "GraftTrees$Forest" "kindName") ∈ lw_all := lw_g (lw_at lw_m2 179 rfl) rfl
theorem q646 : (Jvm.Cond.laysFinal "GraftTrees$Forest" "GraftTrees$Forest" "spelt" "[B") ∈ lw_all := lw_g (lw_at lw_m2 180 rfl) rfl
theorem q647 : (Jvm.Cond.soleField "GraftTrees$Forest" "spelt") ∈ lw_all := lw_g (lw_at lw_m2 181 rfl) rfl
theorem q648 : (Jvm.Cond.superclass "GraftTrees$Forest" "java/lang/Object") ∈ lw_all := lw_g (lw_at lw_m2 182 rfl) rfl
theorem q849 : (Jvm.Cond.fieldLinkNest "GraftTrees$Forest" (241 : Nat) "GraftTrees$Parser" "kind" "[I" "GraftTrees") ∈ lw_tbl := lw_at lw_m3 143 rfl
theorem q851 : (Jvm.Cond.fieldLinkNest "GraftTrees$Forest" (242 : Nat) "GraftTrees$Parser" "token" "[I" "GraftTrees") ∈ lw_tbl := lw_at lw_m3 145 rfl
theorem q853 : (Jvm.Cond.fieldLinkNest "GraftTrees$Forest" (249 : Nat) "GraftTrees$Parser" "first" "[I" "GraftTrees") ∈ lw_tbl := lw_at lw_m3 147 rfl
theorem q855 : (Jvm.Cond.fieldLinkNest "GraftTrees$Forest" (255 : Nat) "GraftTrees$Parser" "second" "[I" "GraftTrees") ∈ lw_tbl := lw_at lw_m3 149 rfl
theorem q857 : (Jvm.Cond.fieldLinkNest "GraftTrees$Forest" (258 : Nat) "GraftTrees$Parser" "third" "[I" "GraftTrees") ∈ lw_tbl := lw_at lw_m3 151 rfl
theorem q859 : (Jvm.Cond.fieldLinkNest "GraftTrees$Forest" (246 : Nat) "GraftTrees$Parser" "next" "[I" "GraftTrees") ∈ lw_tbl := lw_at lw_m3 153 rfl
theorem q861 : (Jvm.Cond.fieldLinkNest "GraftTrees$Forest" (272 : Nat) "GraftTrees$Parser" "name" "[I" "GraftTrees") ∈ lw_tbl := lw_at lw_m3 155 rfl
theorem q863 : (Jvm.Cond.fieldLinkNest "GraftTrees$Forest" (275 : Nat) "GraftTrees$Parser" "nameSize" "[I" "GraftTrees") ∈ lw_tbl := lw_at lw_m3 157 rfl
theorem q867 : (Jvm.Cond.fieldLinkNest "GraftTrees$Forest" (201 : Nat) "GraftTrees$Parser" "ownName" "[I" "GraftTrees") ∈ lw_tbl := lw_at lw_m3 161 rfl
theorem q869 : (Jvm.Cond.fieldLinkNest "GraftTrees$Forest" (206 : Nat) "GraftTrees$Parser" "ownSize" "[I" "GraftTrees") ∈ lw_tbl := lw_at lw_m3 163 rfl
theorem q871 : (Jvm.Cond.fieldLinkNest "GraftTrees$Forest" (218 : Nat) "GraftTrees$Parser" "ownFrom" "[I" "GraftTrees") ∈ lw_tbl := lw_at lw_m3 165 rfl
theorem q873 : (Jvm.Cond.fieldLinkNest "GraftTrees$Forest" (230 : Nat) "GraftTrees$Parser" "ownFirst" "[I" "GraftTrees") ∈ lw_tbl := lw_at lw_m3 167 rfl
theorem q875 : (Jvm.Cond.fieldLinkNest "GraftTrees$Forest" (212 : Nat) "GraftTrees$Parser" "ownParams" "[I" "GraftTrees") ∈ lw_tbl := lw_at lw_m3 169 rfl
theorem q877 : (Jvm.Cond.fieldLinkNest "GraftTrees$Forest" (215 : Nat) "GraftTrees$Parser" "ownLocals" "[I" "GraftTrees") ∈ lw_tbl := lw_at lw_m3 171 rfl
theorem q1449 : (Jvm.Cond.instanceMethod ({ cls := "GraftTrees$Forest", name := "plant", desc := "(LGraftTrees$Parser;[BII)I" } : Jvm.MethodName)) ∈ lw_all := lw_g (lw_at lw_m6 23 rfl) rfl
theorem q1450 : (Jvm.Cond.selects "GraftTrees$Forest" ({ cls := "GraftTrees$Forest", name := "plant", desc := "(LGraftTrees$Parser;[BII)I" } : Jvm.MethodName) ({ cls := "GraftTrees$Forest", name := "plant", desc := "(LGraftTrees$Parser;[BII)I" } : Jvm.MethodName)) ∈ lw_all := lw_g (lw_at lw_m6 24 rfl) rfl
theorem q1451 : (Jvm.Cond.code ({ cls := "GraftTrees$Forest", name := "plant", desc := "(LGraftTrees$Parser;[BII)I" } : Jvm.MethodName) prog_3_method_10_code (6 : Nat) (Option.some Jvm.ClassFile.FieldType.int)) ∈ lw_all := lw_g (lw_at lw_m6 25 rfl) rfl
theorem q1452 : (Jvm.Cond.methodLink "GraftTrees$Forest" (221 : Nat) ({ cls := "GraftTrees$Forest", name := "node", desc := "(I)I" } : Jvm.MethodName)) ∈ lw_all := lw_g (lw_at lw_m6 26 rfl) rfl
theorem q1453 : (Jvm.Cond.privateMethod ({ cls := "GraftTrees$Forest", name := "node", desc := "(I)I" } : Jvm.MethodName)) ∈ lw_tbl := lw_at lw_m6 27 rfl
theorem q1454 : (Jvm.Cond.instanceMethod ({ cls := "GraftTrees$Forest", name := "node", desc := "(I)I" } : Jvm.MethodName)) ∈ lw_all := lw_g (lw_at lw_m6 28 rfl) rfl
theorem q1455 : (Jvm.Cond.code ({ cls := "GraftTrees$Forest", name := "node", desc := "(I)I" } : Jvm.MethodName) prog_3_method_11_code (3 : Nat) (Option.some Jvm.ClassFile.FieldType.int)) ∈ lw_all := lw_g (lw_at lw_m6 29 rfl) rfl
theorem q1456 : (Jvm.Cond.methodLink "GraftTrees$Forest" (233 : Nat) ({ cls := "GraftTrees$Forest", name := "statements", desc := "(I)V" } : Jvm.MethodName)) ∈ lw_all := lw_g (lw_at lw_m6 30 rfl) rfl
theorem q1457 : (Jvm.Cond.privateMethod ({ cls := "GraftTrees$Forest", name := "statements", desc := "(I)V" } : Jvm.MethodName)) ∈ lw_tbl := lw_at lw_m6 31 rfl
theorem q1458 : (Jvm.Cond.instanceMethod ({ cls := "GraftTrees$Forest", name := "statements", desc := "(I)V" } : Jvm.MethodName)) ∈ lw_all := lw_g (lw_at lw_m6 32 rfl) rfl
theorem q1459 : (Jvm.Cond.code ({ cls := "GraftTrees$Forest", name := "statements", desc := "(I)V" } : Jvm.MethodName) prog_3_method_13_code (3 : Nat) (Option.none : Option Jvm.ClassFile.FieldType)) ∈ lw_all := lw_g (lw_at lw_m6 33 rfl) rfl
theorem q1460 : (Jvm.Cond.methodLink "GraftTrees$Forest" (243 : Nat) ({ cls := "GraftTrees$Forest", name := "statement", desc := "(I)V" } : Jvm.MethodName)) ∈ lw_all := lw_g (lw_at lw_m6 34 rfl) rfl
theorem q1461 : (Jvm.Cond.privateMethod ({ cls := "GraftTrees$Forest", name := "statement", desc := "(I)V" } : Jvm.MethodName)) ∈ lw_tbl := lw_at lw_m6 35 rfl
theorem q1462 : (Jvm.Cond.instanceMethod ({ cls := "GraftTrees$Forest", name := "statement", desc := "(I)V" } : Jvm.MethodName)) ∈ lw_all := lw_g (lw_at lw_m6 36 rfl) rfl
theorem q1463 : (Jvm.Cond.code ({ cls := "GraftTrees$Forest", name := "statement", desc := "(I)V" } : Jvm.MethodName) prog_3_method_14_code (6 : Nat) (Option.none : Option Jvm.ClassFile.FieldType)) ∈ lw_all := lw_g (lw_at lw_m6 37 rfl) rfl
theorem q1464 : (Jvm.Cond.methodLink "GraftTrees$Forest" (237 : Nat) ({ cls := "GraftTrees$Forest", name := "put", desc := "(III)I" } : Jvm.MethodName)) ∈ lw_all := lw_g (lw_at lw_m6 38 rfl) rfl
theorem q1465 : (Jvm.Cond.privateMethod ({ cls := "GraftTrees$Forest", name := "put", desc := "(III)I" } : Jvm.MethodName)) ∈ lw_tbl := lw_at lw_m6 39 rfl
theorem q1466 : (Jvm.Cond.instanceMethod ({ cls := "GraftTrees$Forest", name := "put", desc := "(III)I" } : Jvm.MethodName)) ∈ lw_all := lw_g (lw_at lw_m6 40 rfl) rfl
theorem q1467 : (Jvm.Cond.code ({ cls := "GraftTrees$Forest", name := "put", desc := "(III)I" } : Jvm.MethodName) prog_3_method_12_code (4 : Nat) (Option.some Jvm.ClassFile.FieldType.int)) ∈ lw_all := lw_g (lw_at lw_m6 41 rfl) rfl
theorem q1468 : (Jvm.Cond.methodLink "GraftTrees$Forest" (252 : Nat) ({ cls := "GraftTrees$Forest", name := "work", desc := "(I)V" } : Jvm.MethodName)) ∈ lw_all := lw_g (lw_at lw_m6 42 rfl) rfl
theorem q1469 : (Jvm.Cond.privateMethod ({ cls := "GraftTrees$Forest", name := "work", desc := "(I)V" } : Jvm.MethodName)) ∈ lw_tbl := lw_at lw_m6 43 rfl
theorem q1470 : (Jvm.Cond.instanceMethod ({ cls := "GraftTrees$Forest", name := "work", desc := "(I)V" } : Jvm.MethodName)) ∈ lw_all := lw_g (lw_at lw_m6 44 rfl) rfl
theorem q1471 : (Jvm.Cond.code ({ cls := "GraftTrees$Forest", name := "work", desc := "(I)V" } : Jvm.MethodName) prog_3_method_17_code (3 : Nat) (Option.none : Option Jvm.ClassFile.FieldType)) ∈ lw_all := lw_g (lw_at lw_m6 45 rfl) rfl
theorem q1472 : (Jvm.Cond.methodLink "GraftTrees$Forest" (268 : Nat) ({ cls := "GraftTrees$Forest", name := "work", desc := "(II)V" } : Jvm.MethodName)) ∈ lw_all := lw_g (lw_at lw_m6 46 rfl) rfl
theorem q1473 : (Jvm.Cond.privateMethod ({ cls := "GraftTrees$Forest", name := "work", desc := "(II)V" } : Jvm.MethodName)) ∈ lw_tbl := lw_at lw_m6 47 rfl
theorem q1474 : (Jvm.Cond.instanceMethod ({ cls := "GraftTrees$Forest", name := "work", desc := "(II)V" } : Jvm.MethodName)) ∈ lw_all := lw_g (lw_at lw_m6 48 rfl) rfl
theorem q1475 : (Jvm.Cond.code ({ cls := "GraftTrees$Forest", name := "work", desc := "(II)V" } : Jvm.MethodName) prog_3_method_18_code (4 : Nat) (Option.none : Option Jvm.ClassFile.FieldType)) ∈ lw_all := lw_g (lw_at lw_m6 49 rfl) rfl
theorem q1476 : (Jvm.Cond.methodLink "GraftTrees$Forest" (270 : Nat) ({ cls := "GraftTrees$Forest", name := "number", desc := "(II)V" } : Jvm.MethodName)) ∈ lw_all := lw_g (lw_at lw_m6 50 rfl) rfl
theorem q1477 : (Jvm.Cond.privateMethod ({ cls := "GraftTrees$Forest", name := "number", desc := "(II)V" } : Jvm.MethodName)) ∈ lw_tbl := lw_at lw_m6 51 rfl
theorem q1478 : (Jvm.Cond.instanceMethod ({ cls := "GraftTrees$Forest", name := "number", desc := "(II)V" } : Jvm.MethodName)) ∈ lw_all := lw_g (lw_at lw_m6 52 rfl) rfl
theorem q1479 : (Jvm.Cond.code ({ cls := "GraftTrees$Forest", name := "number", desc := "(II)V" } : Jvm.MethodName) prog_3_method_21_code (4 : Nat) (Option.none : Option Jvm.ClassFile.FieldType)) ∈ lw_all := lw_g (lw_at lw_m6 53 rfl) rfl
theorem q1480 : (Jvm.Cond.methodLink "GraftTrees$Forest" (284 : Nat) ({ cls := "GraftTrees$Whole", name := "of", desc := "(J)V" } : Jvm.MethodName)) ∈ lw_all := lw_g (lw_at lw_m6 54 rfl) rfl
theorem q1491 : (Jvm.Cond.methodLink "GraftTrees$Forest" (287 : Nat) ({ cls := "GraftTrees$Whole", name := "more", desc := "(I)Z" } : Jvm.MethodName)) ∈ lw_all := lw_g (lw_at lw_m6 65 rfl) rfl
theorem q1500 : (Jvm.Cond.methodLink "GraftTrees$Forest" (291 : Nat) ({ cls := "GraftTrees$Whole", name := "isLong", desc := "()Z" } : Jvm.MethodName)) ∈ lw_all := lw_g (lw_at lw_m6 74 rfl) rfl
theorem q1516 : (Jvm.Cond.methodLink "GraftTrees$Forest" (278 : Nat) ({ cls := "GraftTrees$Forest", name := "constant", desc := "(IIJ)V" } : Jvm.MethodName)) ∈ lw_all := lw_g (lw_at lw_m6 90 rfl) rfl
theorem q1517 : (Jvm.Cond.privateMethod ({ cls := "GraftTrees$Forest", name := "constant", desc := "(IIJ)V" } : Jvm.MethodName)) ∈ lw_tbl := lw_at lw_m6 91 rfl
theorem q1518 : (Jvm.Cond.instanceMethod ({ cls := "GraftTrees$Forest", name := "constant", desc := "(IIJ)V" } : Jvm.MethodName)) ∈ lw_all := lw_g (lw_at lw_m6 92 rfl) rfl
theorem q1519 : (Jvm.Cond.code ({ cls := "GraftTrees$Forest", name := "constant", desc := "(IIJ)V" } : Jvm.MethodName) prog_3_method_20_code (5 : Nat) (Option.none : Option Jvm.ClassFile.FieldType)) ∈ lw_all := lw_g (lw_at lw_m6 93 rfl) rfl
theorem q1520 : (Jvm.Cond.methodLink "GraftTrees$Forest" (299 : Nat) ({ cls := "GraftTrees$Heap", name := "whole", desc := "(LGraftTrees$Whole;Z)I" } : Jvm.MethodName)) ∈ lw_all := lw_g (lw_at lw_m6 94 rfl) rfl
theorem q1524 : (Jvm.Cond.methodLink "GraftTrees$Forest" (281 : Nat) ({ cls := "GraftTrees$Forest", name := "property", desc := "(II)V" } : Jvm.MethodName)) ∈ lw_all := lw_g (lw_at lw_m6 98 rfl) rfl
theorem q1525 : (Jvm.Cond.privateMethod ({ cls := "GraftTrees$Forest", name := "property", desc := "(II)V" } : Jvm.MethodName)) ∈ lw_tbl := lw_at lw_m6 99 rfl
theorem q1526 : (Jvm.Cond.instanceMethod ({ cls := "GraftTrees$Forest", name := "property", desc := "(II)V" } : Jvm.MethodName)) ∈ lw_all := lw_g (lw_at lw_m6 100 rfl) rfl
theorem q1527 : (Jvm.Cond.code ({ cls := "GraftTrees$Forest", name := "property", desc := "(II)V" } : Jvm.MethodName) prog_3_method_19_code (3 : Nat) (Option.none : Option Jvm.ClassFile.FieldType)) ∈ lw_all := lw_g (lw_at lw_m6 101 rfl) rfl
theorem q1528 : (Jvm.Cond.methodLink "GraftTrees$Forest" (261 : Nat) ({ cls := "GraftTrees$Forest", name := "loop", desc := "(II)V" } : Jvm.MethodName)) ∈ lw_all := lw_g (lw_at lw_m6 102 rfl) rfl
theorem q1529 : (Jvm.Cond.privateMethod ({ cls := "GraftTrees$Forest", name := "loop", desc := "(II)V" } : Jvm.MethodName)) ∈ lw_tbl := lw_at lw_m6 103 rfl
theorem q1530 : (Jvm.Cond.instanceMethod ({ cls := "GraftTrees$Forest", name := "loop", desc := "(II)V" } : Jvm.MethodName)) ∈ lw_all := lw_g (lw_at lw_m6 104 rfl) rfl
theorem q1531 : (Jvm.Cond.code ({ cls := "GraftTrees$Forest", name := "loop", desc := "(II)V" } : Jvm.MethodName) prog_3_method_15_code (7 : Nat) (Option.none : Option Jvm.ClassFile.FieldType)) ∈ lw_all := lw_g (lw_at lw_m6 105 rfl) rfl
theorem q1532 : (Jvm.Cond.methodLink "GraftTrees$Forest" (265 : Nat) ({ cls := "GraftTrees$Forest", name := "land", desc := "(I)V" } : Jvm.MethodName)) ∈ lw_all := lw_g (lw_at lw_m6 106 rfl) rfl
theorem q1533 : (Jvm.Cond.privateMethod ({ cls := "GraftTrees$Forest", name := "land", desc := "(I)V" } : Jvm.MethodName)) ∈ lw_tbl := lw_at lw_m6 107 rfl
theorem q1534 : (Jvm.Cond.instanceMethod ({ cls := "GraftTrees$Forest", name := "land", desc := "(I)V" } : Jvm.MethodName)) ∈ lw_all := lw_g (lw_at lw_m6 108 rfl) rfl
theorem q1535 : (Jvm.Cond.code ({ cls := "GraftTrees$Forest", name := "land", desc := "(I)V" } : Jvm.MethodName) prog_3_method_16_code (4 : Nat) (Option.none : Option Jvm.ClassFile.FieldType)) ∈ lw_all := lw_g (lw_at lw_m6 109 rfl) rfl
theorem q1546 : (Jvm.Cond.instanceMethod ({ cls := "GraftTrees$Forest", name := "named", desc := "(Ljava/lang/String;)I" } : Jvm.MethodName)) ∈ lw_all := lw_g (lw_at lw_m6 120 rfl) rfl
theorem q1547 : (Jvm.Cond.selects "GraftTrees$Forest" ({ cls := "GraftTrees$Forest", name := "named", desc := "(Ljava/lang/String;)I" } : Jvm.MethodName) ({ cls := "GraftTrees$Forest", name := "named", desc := "(Ljava/lang/String;)I" } : Jvm.MethodName)) ∈ lw_all := lw_g (lw_at lw_m6 121 rfl) rfl
theorem q1548 : (Jvm.Cond.code ({ cls := "GraftTrees$Forest", name := "named", desc := "(Ljava/lang/String;)I" } : Jvm.MethodName) prog_3_method_7_code (6 : Nat) (Option.some Jvm.ClassFile.FieldType.int)) ∈ lw_all := lw_g (lw_at lw_m6 122 rfl) rfl
theorem q1581 : (Jvm.Cond.instanceMethod ({ cls := "GraftTrees$Forest", name := "isNewest", desc := "(I)Z" } : Jvm.MethodName)) ∈ lw_all := lw_g (lw_at lw_m6 155 rfl) rfl
theorem q1582 : (Jvm.Cond.selects "GraftTrees$Forest" ({ cls := "GraftTrees$Forest", name := "isNewest", desc := "(I)Z" } : Jvm.MethodName) ({ cls := "GraftTrees$Forest", name := "isNewest", desc := "(I)Z" } : Jvm.MethodName)) ∈ lw_all := lw_g (lw_at lw_m6 156 rfl) rfl
theorem q1583 : (Jvm.Cond.code ({ cls := "GraftTrees$Forest", name := "isNewest", desc := "(I)Z" } : Jvm.MethodName) prog_3_method_9_code (2 : Nat) (Option.some Jvm.ClassFile.FieldType.boolean)) ∈ lw_all := lw_g (lw_at lw_m6 157 rfl) rfl
theorem q1959 : (Jvm.Cond.instanceMethod ({ cls := "GraftTrees$Forest", name := "sort", desc := "(II)I" } : Jvm.MethodName)) ∈ lw_all := lw_g (lw_at lw_m8 53 rfl) rfl
theorem q1960 : (Jvm.Cond.selects "GraftTrees$Forest" ({ cls := "GraftTrees$Forest", name := "sort", desc := "(II)I" } : Jvm.MethodName) ({ cls := "GraftTrees$Forest", name := "sort", desc := "(II)I" } : Jvm.MethodName)) ∈ lw_all := lw_g (lw_at lw_m8 54 rfl) rfl
theorem q1961 : (Jvm.Cond.code ({ cls := "GraftTrees$Forest", name := "sort", desc := "(II)I" } : Jvm.MethodName) prog_3_method_22_code (3 : Nat) (Option.some Jvm.ClassFile.FieldType.int)) ∈ lw_all := lw_g (lw_at lw_m8 55 rfl) rfl
theorem in_X3 : ∀ w ∈ wsX30, w ∈ lw_all := lw_in wsX30 [564, 566, 568, 570, 572, 574, 576, 578, 580, 582, 584, 586, 588, 590, 592, 594, 596, 598, 600, 602, 604, 606, 608, 610, 612, 614, 616, 618, 620, 622, 624, 626, 628, 630, 632, 634, 636, 638, 640, 642, 644, 646] (by decide +kernel) (by decide +kernel)
/-! GraftTrees$Whole -/
def RX4 : String := "GraftTrees$Whole"
def TX4 : u_T := fun k => match k with
  | 0 => ("GraftTrees$Whole", "sign", "I", false)
  | 1 => ("GraftTrees$Whole", "limb", "[J", true)
  | 2 => ("GraftTrees$Whole", "wide", "[J", true)
  | _ => ("GraftTrees$Whole", "told", "J", false)
def tyX4 : Nat → FieldType := fun k => match k with
  | 0 => .int
  | 1 => .array .long
  | 2 => .array .long
  | _ => .long
abbrev wsX40 : List Cond := u_ws RX4 TX4 4
theorem nmX4 : ∀ a, a < 4 → ∀ b, b < 4 → a ≠ b → (TX4 a).2.1 ≠ (TX4 b).2.1 := by decide +kernel
theorem tyX4_ok : ∀ k, k < 4 → parseFieldDescriptor (TX4 k).2.2.1 = some (tyX4 k) := by decide +kernel
abbrev cX4_init : ByteArray := prog_9_method_1_code
def yX4_init : MethodName := ⟨RX4, "<init>", "()V"⟩
abbrev cX4_of : ByteArray := prog_9_method_2_code
def yX4_of : MethodName := ⟨RX4, "of", "(J)V"⟩
abbrev cX4_more : ByteArray := prog_9_method_4_code
def yX4_more : MethodName := ⟨RX4, "more", "(I)Z"⟩
abbrev cX4_settle : ByteArray := prog_9_method_5_code
def yX4_settle : MethodName := ⟨RX4, "settle", "(I)V"⟩
abbrev cX4_isLong : ByteArray := prog_9_method_14_code
def yX4_isLong : MethodName := ⟨RX4, "isLong", "()Z"⟩
abbrev cX4_digits : ByteArray := prog_9_method_13_code
def yX4_digits : MethodName := ⟨RX4, "digits", "()I"⟩
abbrev cX4_digit : ByteArray := prog_9_method_12_code
def yX4_digit : MethodName := ⟨RX4, "digit", "(I)I"⟩
abbrev cX4_compare : ByteArray := prog_9_method_7_code
def yX4_compare : MethodName := ⟨RX4, "compare", "(LGraftTrees$Whole;LGraftTrees$Whole;)I"⟩
abbrev cX4_size : ByteArray := prog_9_method_6_code
def yX4_size : MethodName := ⟨RX4, "size", "(LGraftTrees$Whole;LGraftTrees$Whole;)I"⟩
abbrev cX4_sum : ByteArray := prog_9_method_8_code
def yX4_sum : MethodName := ⟨RX4, "sum", "(LGraftTrees$Whole;LGraftTrees$Whole;Z)Z"⟩
abbrev cX4_of_2 : ByteArray := prog_9_method_3_code
def yX4_of_2 : MethodName := ⟨RX4, "of", "(LGraftTrees$Whole;)V"⟩
abbrev cX4_less : ByteArray := prog_9_method_9_code
def yX4_less : MethodName := ⟨RX4, "less", "(LGraftTrees$Whole;LGraftTrees$Whole;)V"⟩
abbrev cX4_product : ByteArray := prog_9_method_10_code
def yX4_product : MethodName := ⟨RX4, "product", "(LGraftTrees$Whole;LGraftTrees$Whole;)Z"⟩
abbrev cX4_quotient : ByteArray := prog_9_method_11_code
def yX4_quotient : MethodName := ⟨RX4, "quotient", "(LGraftTrees$Whole;LGraftTrees$Whole;LGraftTrees$Whole;)V"⟩
theorem q230 : (Jvm.Cond.initialized "GraftTrees$Whole") ∈ lw_all := lw_g (lw_at lw_m1 4 rfl) rfl
theorem q340 : (Jvm.Cond.instantiable "GraftTrees$Whole" (4 : Nat)) ∈ lw_all := lw_g (lw_at lw_m1 114 rfl) rfl
theorem q342 : (Jvm.Cond.instanceMethod ({ cls := "GraftTrees$Whole", name := "<init>", desc := "()V" } : Jvm.MethodName)) ∈ lw_all := lw_g (lw_at lw_m1 116 rfl) rfl
theorem q343 : (Jvm.Cond.code ({ cls := "GraftTrees$Whole", name := "<init>", desc := "()V" } : Jvm.MethodName) prog_9_method_1_code (1 : Nat) (Option.none : Option Jvm.ClassFile.FieldType)) ∈ lw_all := lw_g (lw_at lw_m1 117 rfl) rfl
theorem q344 : (Jvm.Cond.methodLink "GraftTrees$Whole" (1 : Nat) ({ cls := "java/lang/Object", name := "<init>", desc := "()V" } : Jvm.MethodName)) ∈ lw_all := lw_g (lw_at lw_m1 118 rfl) rfl
theorem q345 : (Jvm.Cond.fieldLink "GraftTrees$Whole" (22 : Nat) "GraftTrees$Whole" "sign" "I") ∈ lw_all := lw_g (lw_at lw_m1 119 rfl) rfl
theorem q348 : (Jvm.Cond.fieldLink "GraftTrees$Whole" (7 : Nat) "GraftTrees$Whole" "limb" "[J") ∈ lw_all := lw_g (lw_at lw_m1 122 rfl) rfl
theorem q350 : (Jvm.Cond.fieldLink "GraftTrees$Whole" (13 : Nat) "GraftTrees$Whole" "wide" "[J") ∈ lw_all := lw_g (lw_at lw_m1 124 rfl) rfl
theorem q351 : (Jvm.Cond.fieldLink "GraftTrees$Whole" (63 : Nat) "GraftTrees$Whole" "told" "J") ∈ lw_all := lw_g (lw_at lw_m1 125 rfl) rfl
theorem q353 : (Jvm.Cond.lays "GraftTrees$Whole" "GraftTrees$Whole" "sign" "I") ∈ lw_all := lw_g (lw_at lw_m1 127 rfl) rfl
theorem q354 : (Jvm.Cond.soleField "GraftTrees$Whole" "sign") ∈ lw_all := lw_g (lw_at lw_m1 128 rfl) rfl
theorem q355 : (Jvm.Cond.laysFinal "GraftTrees$Whole" "GraftTrees$Whole" "limb" "[J") ∈ lw_all := lw_g (lw_at lw_m1 129 rfl) rfl
theorem q356 : (Jvm.Cond.soleField "GraftTrees$Whole" "limb") ∈ lw_all := lw_g (lw_at lw_m1 130 rfl) rfl
theorem q357 : (Jvm.Cond.laysFinal "GraftTrees$Whole" "GraftTrees$Whole" "wide" "[J") ∈ lw_all := lw_g (lw_at lw_m1 131 rfl) rfl
theorem q358 : (Jvm.Cond.soleField "GraftTrees$Whole" "wide") ∈ lw_all := lw_g (lw_at lw_m1 132 rfl) rfl
theorem q359 : (Jvm.Cond.lays "GraftTrees$Whole" "GraftTrees$Whole" "told" "J") ∈ lw_all := lw_g (lw_at lw_m1 133 rfl) rfl
theorem q360 : (Jvm.Cond.soleField "GraftTrees$Whole" "told") ∈ lw_all := lw_g (lw_at lw_m1 134 rfl) rfl
theorem q361 : (Jvm.Cond.superclass "GraftTrees$Whole" "java/lang/Object") ∈ lw_all := lw_g (lw_at lw_m1 135 rfl) rfl
theorem q1481 : (Jvm.Cond.instanceMethod ({ cls := "GraftTrees$Whole", name := "of", desc := "(J)V" } : Jvm.MethodName)) ∈ lw_all := lw_g (lw_at lw_m6 55 rfl) rfl
theorem q1482 : (Jvm.Cond.selects "GraftTrees$Whole" ({ cls := "GraftTrees$Whole", name := "of", desc := "(J)V" } : Jvm.MethodName) ({ cls := "GraftTrees$Whole", name := "of", desc := "(J)V" } : Jvm.MethodName)) ∈ lw_all := lw_g (lw_at lw_m6 56 rfl) rfl
theorem q1483 : (Jvm.Cond.code ({ cls := "GraftTrees$Whole", name := "of", desc := "(J)V" } : Jvm.MethodName) prog_9_method_2_code (6 : Nat) (Option.none : Option Jvm.ClassFile.FieldType)) ∈ lw_all := lw_g (lw_at lw_m6 57 rfl) rfl
theorem q1484 : (Jvm.Cond.methodLink "GraftTrees$Whole" (16 : Nat) ({ cls := "java/lang/Long", name := "signum", desc := "(J)I" } : Jvm.MethodName)) ∈ lw_all := lw_g (lw_at lw_m6 58 rfl) rfl
theorem q1487 : (Jvm.Cond.constantLong "GraftTrees$Whole" (26 : Nat) (1000000000 : Int64)) ∈ lw_all := lw_g (lw_at lw_m6 61 rfl) rfl
theorem q1488 : (Jvm.Cond.methodLink "GraftTrees$Whole" (28 : Nat) ({ cls := "java/lang/Math", name := "abs", desc := "(J)J" } : Jvm.MethodName)) ∈ lw_all := lw_g (lw_at lw_m6 62 rfl) rfl
theorem q1492 : (Jvm.Cond.instanceMethod ({ cls := "GraftTrees$Whole", name := "more", desc := "(I)Z" } : Jvm.MethodName)) ∈ lw_all := lw_g (lw_at lw_m6 66 rfl) rfl
theorem q1493 : (Jvm.Cond.selects "GraftTrees$Whole" ({ cls := "GraftTrees$Whole", name := "more", desc := "(I)Z" } : Jvm.MethodName) ({ cls := "GraftTrees$Whole", name := "more", desc := "(I)Z" } : Jvm.MethodName)) ∈ lw_all := lw_g (lw_at lw_m6 67 rfl) rfl
theorem q1494 : (Jvm.Cond.code ({ cls := "GraftTrees$Whole", name := "more", desc := "(I)Z" } : Jvm.MethodName) prog_9_method_4_code (7 : Nat) (Option.some Jvm.ClassFile.FieldType.boolean)) ∈ lw_all := lw_g (lw_at lw_m6 68 rfl) rfl
theorem q1495 : (Jvm.Cond.constantLong "GraftTrees$Whole" (34 : Nat) (10 : Int64)) ∈ lw_all := lw_g (lw_at lw_m6 69 rfl) rfl
theorem q1496 : (Jvm.Cond.methodLink "GraftTrees$Whole" (36 : Nat) ({ cls := "GraftTrees$Whole", name := "settle", desc := "(I)V" } : Jvm.MethodName)) ∈ lw_all := lw_g (lw_at lw_m6 70 rfl) rfl
theorem q1497 : (Jvm.Cond.privateMethod ({ cls := "GraftTrees$Whole", name := "settle", desc := "(I)V" } : Jvm.MethodName)) ∈ lw_tbl := lw_at lw_m6 71 rfl
theorem q1498 : (Jvm.Cond.instanceMethod ({ cls := "GraftTrees$Whole", name := "settle", desc := "(I)V" } : Jvm.MethodName)) ∈ lw_all := lw_g (lw_at lw_m6 72 rfl) rfl
theorem q1499 : (Jvm.Cond.code ({ cls := "GraftTrees$Whole", name := "settle", desc := "(I)V" } : Jvm.MethodName) prog_9_method_5_code (4 : Nat) (Option.none : Option Jvm.ClassFile.FieldType)) ∈ lw_all := lw_g (lw_at lw_m6 73 rfl) rfl
theorem q1501 : (Jvm.Cond.instanceMethod ({ cls := "GraftTrees$Whole", name := "isLong", desc := "()Z" } : Jvm.MethodName)) ∈ lw_all := lw_g (lw_at lw_m6 75 rfl) rfl
theorem q1502 : (Jvm.Cond.selects "GraftTrees$Whole" ({ cls := "GraftTrees$Whole", name := "isLong", desc := "()Z" } : Jvm.MethodName) ({ cls := "GraftTrees$Whole", name := "isLong", desc := "()Z" } : Jvm.MethodName)) ∈ lw_all := lw_g (lw_at lw_m6 76 rfl) rfl
theorem q1503 : (Jvm.Cond.code ({ cls := "GraftTrees$Whole", name := "isLong", desc := "()Z" } : Jvm.MethodName) prog_9_method_14_code (7 : Nat) (Option.some Jvm.ClassFile.FieldType.boolean)) ∈ lw_all := lw_g (lw_at lw_m6 77 rfl) rfl
theorem q1504 : (Jvm.Cond.methodLink "GraftTrees$Whole" (67 : Nat) ({ cls := "GraftTrees$Whole", name := "digits", desc := "()I" } : Jvm.MethodName)) ∈ lw_all := lw_g (lw_at lw_m6 78 rfl) rfl
theorem q1505 : (Jvm.Cond.instanceMethod ({ cls := "GraftTrees$Whole", name := "digits", desc := "()I" } : Jvm.MethodName)) ∈ lw_all := lw_g (lw_at lw_m6 79 rfl) rfl
theorem q1506 : (Jvm.Cond.selects "GraftTrees$Whole" ({ cls := "GraftTrees$Whole", name := "digits", desc := "()I" } : Jvm.MethodName) ({ cls := "GraftTrees$Whole", name := "digits", desc := "()I" } : Jvm.MethodName)) ∈ lw_all := lw_g (lw_at lw_m6 80 rfl) rfl
theorem q1507 : (Jvm.Cond.code ({ cls := "GraftTrees$Whole", name := "digits", desc := "()I" } : Jvm.MethodName) prog_9_method_13_code (2 : Nat) (Option.some Jvm.ClassFile.FieldType.int)) ∈ lw_all := lw_g (lw_at lw_m6 81 rfl) rfl
theorem q1508 : (Jvm.Cond.methodLink "GraftTrees$Whole" (55 : Nat) ({ cls := "GraftTrees$Whole", name := "digit", desc := "(I)I" } : Jvm.MethodName)) ∈ lw_all := lw_g (lw_at lw_m6 82 rfl) rfl
theorem q1509 : (Jvm.Cond.instanceMethod ({ cls := "GraftTrees$Whole", name := "digit", desc := "(I)I" } : Jvm.MethodName)) ∈ lw_all := lw_g (lw_at lw_m6 83 rfl) rfl
theorem q1510 : (Jvm.Cond.selects "GraftTrees$Whole" ({ cls := "GraftTrees$Whole", name := "digit", desc := "(I)I" } : Jvm.MethodName) ({ cls := "GraftTrees$Whole", name := "digit", desc := "(I)I" } : Jvm.MethodName)) ∈ lw_all := lw_g (lw_at lw_m6 84 rfl) rfl
theorem q1511 : (Jvm.Cond.code ({ cls := "GraftTrees$Whole", name := "digit", desc := "(I)I" } : Jvm.MethodName) prog_9_method_12_code (5 : Nat) (Option.some Jvm.ClassFile.FieldType.int)) ∈ lw_all := lw_g (lw_at lw_m6 85 rfl) rfl
theorem q1512 : (Jvm.Cond.methodLink "GraftTrees$Whole" (71 : Nat) ({ cls := "java/lang/Math", name := "multiplyHigh", desc := "(JJ)J" } : Jvm.MethodName)) ∈ lw_all := lw_g (lw_at lw_m6 86 rfl) rfl
theorem q1688 : (Jvm.Cond.static ({ cls := "GraftTrees$Whole", name := "compare", desc := "(LGraftTrees$Whole;LGraftTrees$Whole;)I" } : Jvm.MethodName)) ∈ lw_all := lw_g (lw_at lw_m7 22 rfl) rfl
theorem q1689 : (Jvm.Cond.code ({ cls := "GraftTrees$Whole", name := "compare", desc := "(LGraftTrees$Whole;LGraftTrees$Whole;)I" } : Jvm.MethodName) prog_9_method_7_code (2 : Nat) (Option.some Jvm.ClassFile.FieldType.int)) ∈ lw_all := lw_g (lw_at lw_m7 23 rfl) rfl
theorem q1690 : (Jvm.Cond.methodLink "GraftTrees$Whole" (40 : Nat) ({ cls := "GraftTrees$Whole", name := "size", desc := "(LGraftTrees$Whole;LGraftTrees$Whole;)I" } : Jvm.MethodName)) ∈ lw_all := lw_g (lw_at lw_m7 24 rfl) rfl
theorem q1691 : (Jvm.Cond.static ({ cls := "GraftTrees$Whole", name := "size", desc := "(LGraftTrees$Whole;LGraftTrees$Whole;)I" } : Jvm.MethodName)) ∈ lw_all := lw_g (lw_at lw_m7 25 rfl) rfl
theorem q1692 : (Jvm.Cond.code ({ cls := "GraftTrees$Whole", name := "size", desc := "(LGraftTrees$Whole;LGraftTrees$Whole;)I" } : Jvm.MethodName) prog_9_method_6_code (3 : Nat) (Option.some Jvm.ClassFile.FieldType.int)) ∈ lw_all := lw_g (lw_at lw_m7 26 rfl) rfl
theorem q1755 : (Jvm.Cond.instanceMethod ({ cls := "GraftTrees$Whole", name := "sum", desc := "(LGraftTrees$Whole;LGraftTrees$Whole;Z)Z" } : Jvm.MethodName)) ∈ lw_all := lw_g (lw_at lw_m7 89 rfl) rfl
theorem q1756 : (Jvm.Cond.selects "GraftTrees$Whole" ({ cls := "GraftTrees$Whole", name := "sum", desc := "(LGraftTrees$Whole;LGraftTrees$Whole;Z)Z" } : Jvm.MethodName) ({ cls := "GraftTrees$Whole", name := "sum", desc := "(LGraftTrees$Whole;LGraftTrees$Whole;Z)Z" } : Jvm.MethodName)) ∈ lw_all := lw_g (lw_at lw_m7 90 rfl) rfl
theorem q1757 : (Jvm.Cond.code ({ cls := "GraftTrees$Whole", name := "sum", desc := "(LGraftTrees$Whole;LGraftTrees$Whole;Z)Z" } : Jvm.MethodName) prog_9_method_8_code (10 : Nat) (Option.some Jvm.ClassFile.FieldType.boolean)) ∈ lw_all := lw_g (lw_at lw_m7 91 rfl) rfl
theorem q1758 : (Jvm.Cond.methodLink "GraftTrees$Whole" (44 : Nat) ({ cls := "GraftTrees$Whole", name := "of", desc := "(LGraftTrees$Whole;)V" } : Jvm.MethodName)) ∈ lw_all := lw_g (lw_at lw_m7 92 rfl) rfl
theorem q1759 : (Jvm.Cond.instanceMethod ({ cls := "GraftTrees$Whole", name := "of", desc := "(LGraftTrees$Whole;)V" } : Jvm.MethodName)) ∈ lw_all := lw_g (lw_at lw_m7 93 rfl) rfl
theorem q1760 : (Jvm.Cond.selects "GraftTrees$Whole" ({ cls := "GraftTrees$Whole", name := "of", desc := "(LGraftTrees$Whole;)V" } : Jvm.MethodName) ({ cls := "GraftTrees$Whole", name := "of", desc := "(LGraftTrees$Whole;)V" } : Jvm.MethodName)) ∈ lw_all := lw_g (lw_at lw_m7 94 rfl) rfl
theorem q1761 : (Jvm.Cond.code ({ cls := "GraftTrees$Whole", name := "of", desc := "(LGraftTrees$Whole;)V" } : Jvm.MethodName) prog_9_method_3_code (3 : Nat) (Option.none : Option Jvm.ClassFile.FieldType)) ∈ lw_all := lw_g (lw_at lw_m7 95 rfl) rfl
theorem q1762 : (Jvm.Cond.methodLink "GraftTrees$Whole" (48 : Nat) ({ cls := "GraftTrees$Whole", name := "less", desc := "(LGraftTrees$Whole;LGraftTrees$Whole;)V" } : Jvm.MethodName)) ∈ lw_all := lw_g (lw_at lw_m7 96 rfl) rfl
theorem q1763 : (Jvm.Cond.privateMethod ({ cls := "GraftTrees$Whole", name := "less", desc := "(LGraftTrees$Whole;LGraftTrees$Whole;)V" } : Jvm.MethodName)) ∈ lw_tbl := lw_at lw_m7 97 rfl
theorem q1764 : (Jvm.Cond.instanceMethod ({ cls := "GraftTrees$Whole", name := "less", desc := "(LGraftTrees$Whole;LGraftTrees$Whole;)V" } : Jvm.MethodName)) ∈ lw_all := lw_g (lw_at lw_m7 98 rfl) rfl
theorem q1765 : (Jvm.Cond.code ({ cls := "GraftTrees$Whole", name := "less", desc := "(LGraftTrees$Whole;LGraftTrees$Whole;)V" } : Jvm.MethodName) prog_9_method_9_code (8 : Nat) (Option.none : Option Jvm.ClassFile.FieldType)) ∈ lw_all := lw_g (lw_at lw_m7 99 rfl) rfl
theorem q1767 : (Jvm.Cond.instanceMethod ({ cls := "GraftTrees$Whole", name := "product", desc := "(LGraftTrees$Whole;LGraftTrees$Whole;)Z" } : Jvm.MethodName)) ∈ lw_all := lw_g (lw_at lw_m7 101 rfl) rfl
theorem q1768 : (Jvm.Cond.selects "GraftTrees$Whole" ({ cls := "GraftTrees$Whole", name := "product", desc := "(LGraftTrees$Whole;LGraftTrees$Whole;)Z" } : Jvm.MethodName) ({ cls := "GraftTrees$Whole", name := "product", desc := "(LGraftTrees$Whole;LGraftTrees$Whole;)Z" } : Jvm.MethodName)) ∈ lw_all := lw_g (lw_at lw_m7 102 rfl) rfl
theorem q1769 : (Jvm.Cond.code ({ cls := "GraftTrees$Whole", name := "product", desc := "(LGraftTrees$Whole;LGraftTrees$Whole;)Z" } : Jvm.MethodName) prog_9_method_10_code (9 : Nat) (Option.some Jvm.ClassFile.FieldType.boolean)) ∈ lw_all := lw_g (lw_at lw_m7 103 rfl) rfl
theorem q1771 : (Jvm.Cond.instanceMethod ({ cls := "GraftTrees$Whole", name := "quotient", desc := "(LGraftTrees$Whole;LGraftTrees$Whole;LGraftTrees$Whole;)V" } : Jvm.MethodName)) ∈ lw_all := lw_g (lw_at lw_m7 105 rfl) rfl
theorem q1772 : (Jvm.Cond.selects "GraftTrees$Whole" ({ cls := "GraftTrees$Whole", name := "quotient", desc := "(LGraftTrees$Whole;LGraftTrees$Whole;LGraftTrees$Whole;)V" } : Jvm.MethodName) ({ cls := "GraftTrees$Whole", name := "quotient", desc := "(LGraftTrees$Whole;LGraftTrees$Whole;LGraftTrees$Whole;)V" } : Jvm.MethodName)) ∈ lw_all := lw_g (lw_at lw_m7 106 rfl) rfl
theorem q1773 : (Jvm.Cond.code ({ cls := "GraftTrees$Whole", name := "quotient", desc := "(LGraftTrees$Whole;LGraftTrees$Whole;LGraftTrees$Whole;)V" } : Jvm.MethodName) prog_9_method_11_code (6 : Nat) (Option.none : Option Jvm.ClassFile.FieldType)) ∈ lw_all := lw_g (lw_at lw_m7 107 rfl) rfl
theorem q1774 : (Jvm.Cond.methodLink "GraftTrees$Whole" (52 : Nat) ({ cls := "GraftTrees$Whole", name := "of", desc := "(J)V" } : Jvm.MethodName)) ∈ lw_all := lw_g (lw_at lw_m7 108 rfl) rfl
theorem q1775 : (Jvm.Cond.methodLink "GraftTrees$Whole" (59 : Nat) ({ cls := "GraftTrees$Whole", name := "more", desc := "(I)Z" } : Jvm.MethodName)) ∈ lw_all := lw_g (lw_at lw_m7 109 rfl) rfl
theorem in_X4 : ∀ w ∈ wsX40, w ∈ lw_all := lw_in wsX40 [353, 355, 357, 359] (by decide +kernel) (by decide +kernel)
/-! GraftTrees$Shapes -/
def RX5 : String := "GraftTrees$Shapes"
def TX5 : u_T := fun k => match k with
  | 0 => ("GraftTrees$Shapes", "heap", "LGraftTrees$Heap;", true)
  | 1 => ("GraftTrees$Shapes", "parent", "[I", true)
  | 2 => ("GraftTrees$Shapes", "name", "[I", true)
  | 3 => ("GraftTrees$Shapes", "sort", "[I", true)
  | 4 => ("GraftTrees$Shapes", "heir", "[I", true)
  | 5 => ("GraftTrees$Shapes", "many", "[I", true)
  | 6 => ("GraftTrees$Shapes", "count", "I", false)
  | 7 => ("GraftTrees$Shapes", "letters", "[B", true)
  | 8 => ("GraftTrees$Shapes", "from", "[I", true)
  | 9 => ("GraftTrees$Shapes", "size", "[I", true)
  | 10 => ("GraftTrees$Shapes", "names", "I", false)
  | 11 => ("GraftTrees$Shapes", "used", "I", false)
  | _ => ("GraftTrees$Shapes", "way", "[I", true)
def tyX5 : Nat → FieldType := fun k => match k with
  | 0 => .object "GraftTrees$Heap"
  | 1 => .array .int
  | 2 => .array .int
  | 3 => .array .int
  | 4 => .array .int
  | 5 => .array .int
  | 6 => .int
  | 7 => .array .byte
  | 8 => .array .int
  | 9 => .array .int
  | 10 => .int
  | 11 => .int
  | _ => .array .int
abbrev wsX50 : List Cond := u_ws RX5 TX5 13
theorem nmX5 : ∀ a, a < 13 → ∀ b, b < 13 → a ≠ b → (TX5 a).2.1 ≠ (TX5 b).2.1 := by decide +kernel
theorem tyX5_ok : ∀ k, k < 13 → parseFieldDescriptor (TX5 k).2.2.1 = some (tyX5 k) := by decide +kernel
abbrev cX5_init : ByteArray := prog_7_method_1_code
def yX5_init : MethodName := ⟨RX5, "<init>", "(LGraftTrees$Heap;)V"⟩
abbrev cX5_clear : ByteArray := prog_7_method_2_code
def yX5_clear : MethodName := ⟨RX5, "clear", "()V"⟩
abbrev cX5_nameOf : ByteArray := prog_7_method_3_code
def yX5_nameOf : MethodName := ⟨RX5, "nameOf", "(I)I"⟩
abbrev cX5_place : ByteArray := prog_7_method_5_code
def yX5_place : MethodName := ⟨RX5, "place", "(II)I"⟩
abbrev cX5_last : ByteArray := prog_7_method_7_code
def yX5_last : MethodName := ⟨RX5, "last", "(I)I"⟩
abbrev cX5_sortAt : ByteArray := prog_7_method_6_code
def yX5_sortAt : MethodName := ⟨RX5, "sortAt", "(II)I"⟩
abbrev cX5_childFor : ByteArray := prog_7_method_10_code
def yX5_childFor : MethodName := ⟨RX5, "childFor", "(III)I"⟩
abbrev cX5_child : ByteArray := prog_7_method_8_code
def yX5_child : MethodName := ⟨RX5, "child", "(III)I"⟩
abbrev cX5_newName : ByteArray := prog_7_method_4_code
def yX5_newName : MethodName := ⟨RX5, "newName", "(I)I"⟩
abbrev cX5_add : ByteArray := prog_7_method_9_code
def yX5_add : MethodName := ⟨RX5, "add", "(III)I"⟩
abbrev cX5_wider : ByteArray := prog_7_method_11_code
def yX5_wider : MethodName := ⟨RX5, "wider", "(II)I"⟩
theorem q236 : (Jvm.Cond.initialized "GraftTrees$Shapes") ∈ lw_all := lw_g (lw_at lw_m1 10 rfl) rfl
theorem q268 : (Jvm.Cond.fieldLinkNest "GraftTrees$Shapes" (69 : Nat) "GraftTrees$Heap" "letters" "[B" "GraftTrees") ∈ lw_tbl := lw_at lw_m1 42 rfl
theorem q273 : (Jvm.Cond.fieldLinkNest "GraftTrees$Shapes" (70 : Nat) "GraftTrees$Heap" "from" "[I" "GraftTrees") ∈ lw_tbl := lw_at lw_m1 47 rfl
theorem q278 : (Jvm.Cond.fieldLinkNest "GraftTrees$Shapes" (68 : Nat) "GraftTrees$Heap" "size" "[I" "GraftTrees") ∈ lw_tbl := lw_at lw_m1 52 rfl
theorem q283 : (Jvm.Cond.fieldLinkNest "GraftTrees$Shapes" (63 : Nat) "GraftTrees$Heap" "name" "[I" "GraftTrees") ∈ lw_tbl := lw_at lw_m1 57 rfl
theorem q285 : (Jvm.Cond.fieldLinkNest "GraftTrees$Shapes" (58 : Nat) "GraftTrees$Heap" "looked" "[I" "GraftTrees") ∈ lw_tbl := lw_at lw_m1 59 rfl
theorem q650 : (Jvm.Cond.instantiable "GraftTrees$Shapes" (13 : Nat)) ∈ lw_all := lw_g (lw_at lw_m2 184 rfl) rfl
theorem q652 : (Jvm.Cond.instanceMethod ({ cls := "GraftTrees$Shapes", name := "<init>", desc := "(LGraftTrees$Heap;)V" } : Jvm.MethodName)) ∈ lw_all := lw_g (lw_at lw_m2 186 rfl) rfl
theorem q653 : (Jvm.Cond.code ({ cls := "GraftTrees$Shapes", name := "<init>", desc := "(LGraftTrees$Heap;)V" } : Jvm.MethodName) prog_7_method_1_code (2 : Nat) (Option.none : Option Jvm.ClassFile.FieldType)) ∈ lw_all := lw_g (lw_at lw_m2 187 rfl) rfl
theorem q654 : (Jvm.Cond.methodLink "GraftTrees$Shapes" (3 : Nat) ({ cls := "java/lang/Object", name := "<init>", desc := "()V" } : Jvm.MethodName)) ∈ lw_all := lw_g (lw_at lw_m2 188 rfl) rfl
theorem q655 : (Jvm.Cond.constant "GraftTrees$Shapes" (27 : Nat) (40000 : Int32)) ∈ lw_all := lw_g (lw_at lw_m2 189 rfl) rfl
theorem q656 : (Jvm.Cond.methodLink "GraftTrees$Shapes" (45 : Nat) ({ cls := "GraftTrees$Shapes", name := "clear", desc := "()V" } : Jvm.MethodName)) ∈ lw_all := lw_g (lw_at lw_m2 190 rfl) rfl
theorem q657 : (Jvm.Cond.instanceMethod ({ cls := "GraftTrees$Shapes", name := "clear", desc := "()V" } : Jvm.MethodName)) ∈ lw_all := lw_g (lw_at lw_m2 191 rfl) rfl
theorem q658 : (Jvm.Cond.selects "GraftTrees$Shapes" ({ cls := "GraftTrees$Shapes", name := "clear", desc := "()V" } : Jvm.MethodName) ({ cls := "GraftTrees$Shapes", name := "clear", desc := "()V" } : Jvm.MethodName)) ∈ lw_all := lw_g (lw_at lw_m2 192 rfl) rfl
theorem q659 : (Jvm.Cond.code ({ cls := "GraftTrees$Shapes", name := "clear", desc := "()V" } : Jvm.MethodName) prog_7_method_2_code (1 : Nat) (Option.none : Option Jvm.ClassFile.FieldType)) ∈ lw_all := lw_g (lw_at lw_m2 193 rfl) rfl
theorem q660 : (Jvm.Cond.fieldLink "GraftTrees$Shapes" (41 : Nat) "GraftTrees$Shapes" "heap" "LGraftTrees$Heap;") ∈ lw_all := lw_g (lw_at lw_m2 194 rfl) rfl
theorem q661 : (Jvm.Cond.fieldLink "GraftTrees$Shapes" (9 : Nat) "GraftTrees$Shapes" "parent" "[I") ∈ lw_all := lw_g (lw_at lw_m2 195 rfl) rfl
theorem q663 : (Jvm.Cond.fieldLink "GraftTrees$Shapes" (15 : Nat) "GraftTrees$Shapes" "name" "[I") ∈ lw_all := lw_g (lw_at lw_m2 197 rfl) rfl
theorem q665 : (Jvm.Cond.fieldLink "GraftTrees$Shapes" (18 : Nat) "GraftTrees$Shapes" "sort" "[I") ∈ lw_all := lw_g (lw_at lw_m2 199 rfl) rfl
theorem q667 : (Jvm.Cond.fieldLink "GraftTrees$Shapes" (21 : Nat) "GraftTrees$Shapes" "heir" "[I") ∈ lw_all := lw_g (lw_at lw_m2 201 rfl) rfl
theorem q670 : (Jvm.Cond.fieldLink "GraftTrees$Shapes" (24 : Nat) "GraftTrees$Shapes" "many" "[I") ∈ lw_all := lw_g (lw_at lw_m2 204 rfl) rfl
theorem q673 : (Jvm.Cond.fieldLink "GraftTrees$Shapes" (48 : Nat) "GraftTrees$Shapes" "count" "I") ∈ lw_all := lw_g (lw_at lw_m2 207 rfl) rfl
theorem q675 : (Jvm.Cond.fieldLink "GraftTrees$Shapes" (28 : Nat) "GraftTrees$Shapes" "letters" "[B") ∈ lw_all := lw_g (lw_at lw_m2 209 rfl) rfl
theorem q677 : (Jvm.Cond.fieldLink "GraftTrees$Shapes" (32 : Nat) "GraftTrees$Shapes" "from" "[I") ∈ lw_all := lw_g (lw_at lw_m2 211 rfl) rfl
theorem q679 : (Jvm.Cond.fieldLink "GraftTrees$Shapes" (35 : Nat) "GraftTrees$Shapes" "size" "[I") ∈ lw_all := lw_g (lw_at lw_m2 213 rfl) rfl
theorem q681 : (Jvm.Cond.fieldLink "GraftTrees$Shapes" (52 : Nat) "GraftTrees$Shapes" "names" "I") ∈ lw_all := lw_g (lw_at lw_m2 215 rfl) rfl
theorem q682 : (Jvm.Cond.fieldLink "GraftTrees$Shapes" (55 : Nat) "GraftTrees$Shapes" "used" "I") ∈ lw_all := lw_g (lw_at lw_m2 216 rfl) rfl
theorem q683 : (Jvm.Cond.fieldLink "GraftTrees$Shapes" (38 : Nat) "GraftTrees$Shapes" "way" "[I") ∈ lw_all := lw_g (lw_at lw_m2 217 rfl) rfl
theorem q684 : (Jvm.Cond.laysFinal "GraftTrees$Shapes" "GraftTrees$Shapes" "heap" "LGraftTrees$Heap;") ∈ lw_all := lw_g (lw_at lw_m2 218 rfl) rfl
theorem q685 : (Jvm.Cond.soleField "GraftTrees$Shapes" "heap") ∈ lw_all := lw_g (lw_at lw_m2 219 rfl) rfl
theorem q686 : (Jvm.Cond.laysFinal "GraftTrees$Shapes" "GraftTrees$Shapes" "parent" "[I") ∈ lw_all := lw_g (lw_at lw_m2 220 rfl) rfl
theorem q687 : (Jvm.Cond.soleField "GraftTrees$Shapes" "parent") ∈ lw_all := lw_g (lw_at lw_m2 221 rfl) rfl
theorem q688 : (Jvm.Cond.laysFinal "GraftTrees$Shapes" "GraftTrees$Shapes" "name" "[I") ∈ lw_all := lw_g (lw_at lw_m2 222 rfl) rfl
theorem q689 : (Jvm.Cond.soleField "GraftTrees$Shapes" "name") ∈ lw_all := lw_g (lw_at lw_m2 223 rfl) rfl
theorem q690 : (Jvm.Cond.laysFinal "GraftTrees$Shapes" "GraftTrees$Shapes" "sort" "[I") ∈ lw_all := lw_g (lw_at lw_m2 224 rfl) rfl
theorem q691 : (Jvm.Cond.soleField "GraftTrees$Shapes" "sort") ∈ lw_all := lw_g (lw_at lw_m2 225 rfl) rfl
theorem q692 : (Jvm.Cond.laysFinal "GraftTrees$Shapes" "GraftTrees$Shapes" "heir" "[I") ∈ lw_all := lw_g (lw_at lw_m2 226 rfl) rfl
theorem q693 : (Jvm.Cond.soleField "GraftTrees$Shapes" "heir") ∈ lw_all := lw_g (lw_at lw_m2 227 rfl) rfl
theorem q694 : (Jvm.Cond.laysFinal "GraftTrees$Shapes" "GraftTrees$Shapes" "many" "[I") ∈ lw_all := lw_g (lw_at lw_m2 228 rfl) rfl
theorem q695 : (Jvm.Cond.soleField "GraftTrees$Shapes" "many") ∈ lw_all := lw_g (lw_at lw_m2 229 rfl) rfl
theorem q696 : (Jvm.Cond.lays "GraftTrees$Shapes" "GraftTrees$Shapes" "count" "I") ∈ lw_all := lw_g (lw_at lw_m2 230 rfl) rfl
theorem q697 : (Jvm.Cond.soleField "GraftTrees$Shapes" "count") ∈ lw_all := lw_g (lw_at lw_m2 231 rfl) rfl
theorem q698 : (Jvm.Cond.laysFinal "GraftTrees$Shapes" "GraftTrees$Shapes" "letters" "[B") ∈ lw_all := lw_g (lw_at lw_m2 232 rfl) rfl
theorem q699 : (Jvm.Cond.soleField "GraftTrees$Shapes" "letters") ∈ lw_all := lw_g (lw_at lw_m2 233 rfl) rfl
theorem q700 : (Jvm.Cond.laysFinal "GraftTrees$Shapes" "GraftTrees$Shapes" "from" "[I") ∈ lw_all := lw_g (lw_at lw_m2 234 rfl) rfl
theorem q701 : (Jvm.Cond.soleField "GraftTrees$Shapes" "from") ∈ lw_all := lw_g (lw_at lw_m2 235 rfl) rfl
theorem q702 : (Jvm.Cond.laysFinal "GraftTrees$Shapes" "GraftTrees$Shapes" "size" "[I") ∈ lw_all := lw_g (lw_at lw_m2 236 rfl) rfl
theorem q703 : (Jvm.Cond.soleField "GraftTrees$Shapes" "size") ∈ lw_all := lw_g (lw_at lw_m2 237 rfl) rfl
theorem q704 : (Jvm.Cond.lays "GraftTrees$Shapes" "GraftTrees$Shapes" "names" "I") ∈ lw_all := lw_g (lw_at lw_m2 238 rfl) rfl
theorem q705 : (Jvm.Cond.soleField "GraftTrees$Shapes" "names") ∈ lw_all := lw_g (lw_at lw_m2 239 rfl) rfl
theorem q706 : (Jvm.Cond.lays "GraftTrees$Shapes" "GraftTrees$Shapes" "used" "I") ∈ lw_all := lw_g (lw_at lw_m3 0 rfl) rfl
theorem q707 : (Jvm.Cond.soleField "GraftTrees$Shapes" "used") ∈ lw_all := lw_g (lw_at lw_m3 1 rfl) rfl
theorem q708 : (Jvm.Cond.laysFinal "GraftTrees$Shapes" "GraftTrees$Shapes" "way" "[I") ∈ lw_all := lw_g (lw_at lw_m3 2 rfl) rfl
theorem q709 : (Jvm.Cond.soleField "GraftTrees$Shapes" "way") ∈ lw_all := lw_g (lw_at lw_m3 3 rfl) rfl
theorem q710 : (Jvm.Cond.superclass "GraftTrees$Shapes" "java/lang/Object") ∈ lw_all := lw_g (lw_at lw_m3 4 rfl) rfl
theorem q1798 : (Jvm.Cond.instanceMethod ({ cls := "GraftTrees$Shapes", name := "nameOf", desc := "(I)I" } : Jvm.MethodName)) ∈ lw_all := lw_g (lw_at lw_m7 132 rfl) rfl
theorem q1799 : (Jvm.Cond.selects "GraftTrees$Shapes" ({ cls := "GraftTrees$Shapes", name := "nameOf", desc := "(I)I" } : Jvm.MethodName) ({ cls := "GraftTrees$Shapes", name := "nameOf", desc := "(I)I" } : Jvm.MethodName)) ∈ lw_all := lw_g (lw_at lw_m7 133 rfl) rfl
theorem q1800 : (Jvm.Cond.code ({ cls := "GraftTrees$Shapes", name := "nameOf", desc := "(I)I" } : Jvm.MethodName) prog_7_method_3_code (3 : Nat) (Option.some Jvm.ClassFile.FieldType.int)) ∈ lw_all := lw_g (lw_at lw_m7 134 rfl) rfl
theorem q1801 : (Jvm.Cond.methodLink "GraftTrees$Shapes" (64 : Nat) ({ cls := "GraftTrees$Heap", name := "is", desc := "(I[BII)Z" } : Jvm.MethodName)) ∈ lw_all := lw_g (lw_at lw_m7 135 rfl) rfl
theorem q1803 : (Jvm.Cond.instanceMethod ({ cls := "GraftTrees$Shapes", name := "place", desc := "(II)I" } : Jvm.MethodName)) ∈ lw_all := lw_g (lw_at lw_m7 137 rfl) rfl
theorem q1804 : (Jvm.Cond.selects "GraftTrees$Shapes" ({ cls := "GraftTrees$Shapes", name := "place", desc := "(II)I" } : Jvm.MethodName) ({ cls := "GraftTrees$Shapes", name := "place", desc := "(II)I" } : Jvm.MethodName)) ∈ lw_all := lw_g (lw_at lw_m7 138 rfl) rfl
theorem q1805 : (Jvm.Cond.code ({ cls := "GraftTrees$Shapes", name := "place", desc := "(II)I" } : Jvm.MethodName) prog_7_method_5_code (4 : Nat) (Option.some Jvm.ClassFile.FieldType.int)) ∈ lw_all := lw_g (lw_at lw_m7 139 rfl) rfl
theorem q1824 : (Jvm.Cond.instanceMethod ({ cls := "GraftTrees$Shapes", name := "last", desc := "(I)I" } : Jvm.MethodName)) ∈ lw_all := lw_g (lw_at lw_m7 158 rfl) rfl
theorem q1825 : (Jvm.Cond.selects "GraftTrees$Shapes" ({ cls := "GraftTrees$Shapes", name := "last", desc := "(I)I" } : Jvm.MethodName) ({ cls := "GraftTrees$Shapes", name := "last", desc := "(I)I" } : Jvm.MethodName)) ∈ lw_all := lw_g (lw_at lw_m7 159 rfl) rfl
theorem q1826 : (Jvm.Cond.code ({ cls := "GraftTrees$Shapes", name := "last", desc := "(I)I" } : Jvm.MethodName) prog_7_method_7_code (3 : Nat) (Option.some Jvm.ClassFile.FieldType.int)) ∈ lw_all := lw_g (lw_at lw_m7 160 rfl) rfl
theorem q1828 : (Jvm.Cond.instanceMethod ({ cls := "GraftTrees$Shapes", name := "sortAt", desc := "(II)I" } : Jvm.MethodName)) ∈ lw_all := lw_g (lw_at lw_m7 162 rfl) rfl
theorem q1829 : (Jvm.Cond.selects "GraftTrees$Shapes" ({ cls := "GraftTrees$Shapes", name := "sortAt", desc := "(II)I" } : Jvm.MethodName) ({ cls := "GraftTrees$Shapes", name := "sortAt", desc := "(II)I" } : Jvm.MethodName)) ∈ lw_all := lw_g (lw_at lw_m7 163 rfl) rfl
theorem q1830 : (Jvm.Cond.code ({ cls := "GraftTrees$Shapes", name := "sortAt", desc := "(II)I" } : Jvm.MethodName) prog_7_method_6_code (4 : Nat) (Option.some Jvm.ClassFile.FieldType.int)) ∈ lw_all := lw_g (lw_at lw_m7 164 rfl) rfl
theorem q1832 : (Jvm.Cond.instanceMethod ({ cls := "GraftTrees$Shapes", name := "childFor", desc := "(III)I" } : Jvm.MethodName)) ∈ lw_all := lw_g (lw_at lw_m7 166 rfl) rfl
theorem q1833 : (Jvm.Cond.selects "GraftTrees$Shapes" ({ cls := "GraftTrees$Shapes", name := "childFor", desc := "(III)I" } : Jvm.MethodName) ({ cls := "GraftTrees$Shapes", name := "childFor", desc := "(III)I" } : Jvm.MethodName)) ∈ lw_all := lw_g (lw_at lw_m7 167 rfl) rfl
theorem q1834 : (Jvm.Cond.code ({ cls := "GraftTrees$Shapes", name := "childFor", desc := "(III)I" } : Jvm.MethodName) prog_7_method_10_code (6 : Nat) (Option.some Jvm.ClassFile.FieldType.int)) ∈ lw_all := lw_g (lw_at lw_m7 168 rfl) rfl
theorem q1835 : (Jvm.Cond.methodLink "GraftTrees$Shapes" (77 : Nat) ({ cls := "GraftTrees$Shapes", name := "nameOf", desc := "(I)I" } : Jvm.MethodName)) ∈ lw_all := lw_g (lw_at lw_m7 169 rfl) rfl
theorem q1836 : (Jvm.Cond.methodLink "GraftTrees$Shapes" (81 : Nat) ({ cls := "GraftTrees$Shapes", name := "child", desc := "(III)I" } : Jvm.MethodName)) ∈ lw_all := lw_g (lw_at lw_m7 170 rfl) rfl
theorem q1837 : (Jvm.Cond.instanceMethod ({ cls := "GraftTrees$Shapes", name := "child", desc := "(III)I" } : Jvm.MethodName)) ∈ lw_all := lw_g (lw_at lw_m7 171 rfl) rfl
theorem q1838 : (Jvm.Cond.selects "GraftTrees$Shapes" ({ cls := "GraftTrees$Shapes", name := "child", desc := "(III)I" } : Jvm.MethodName) ({ cls := "GraftTrees$Shapes", name := "child", desc := "(III)I" } : Jvm.MethodName)) ∈ lw_all := lw_g (lw_at lw_m7 172 rfl) rfl
theorem q1839 : (Jvm.Cond.code ({ cls := "GraftTrees$Shapes", name := "child", desc := "(III)I" } : Jvm.MethodName) prog_7_method_8_code (5 : Nat) (Option.some Jvm.ClassFile.FieldType.int)) ∈ lw_all := lw_g (lw_at lw_m7 173 rfl) rfl
theorem q1840 : (Jvm.Cond.methodLink "GraftTrees$Shapes" (85 : Nat) ({ cls := "GraftTrees$Shapes", name := "newName", desc := "(I)I" } : Jvm.MethodName)) ∈ lw_all := lw_g (lw_at lw_m7 174 rfl) rfl
theorem q1841 : (Jvm.Cond.privateMethod ({ cls := "GraftTrees$Shapes", name := "newName", desc := "(I)I" } : Jvm.MethodName)) ∈ lw_tbl := lw_at lw_m7 175 rfl
theorem q1842 : (Jvm.Cond.instanceMethod ({ cls := "GraftTrees$Shapes", name := "newName", desc := "(I)I" } : Jvm.MethodName)) ∈ lw_all := lw_g (lw_at lw_m7 176 rfl) rfl
theorem q1843 : (Jvm.Cond.code ({ cls := "GraftTrees$Shapes", name := "newName", desc := "(I)I" } : Jvm.MethodName) prog_7_method_4_code (2 : Nat) (Option.some Jvm.ClassFile.FieldType.int)) ∈ lw_all := lw_g (lw_at lw_m7 177 rfl) rfl
theorem q1844 : (Jvm.Cond.methodLink "GraftTrees$Shapes" (71 : Nat) ({ cls := "java/lang/System", name := "arraycopy", desc := "(Ljava/lang/Object;ILjava/lang/Object;II)V" } : Jvm.MethodName)) ∈ lw_all := lw_g (lw_at lw_m7 178 rfl) rfl
theorem q1845 : (Jvm.Cond.methodLink "GraftTrees$Shapes" (88 : Nat) ({ cls := "GraftTrees$Shapes", name := "add", desc := "(III)I" } : Jvm.MethodName)) ∈ lw_all := lw_g (lw_at lw_m7 179 rfl) rfl
theorem q1846 : (Jvm.Cond.privateMethod ({ cls := "GraftTrees$Shapes", name := "add", desc := "(III)I" } : Jvm.MethodName)) ∈ lw_tbl := lw_at lw_m7 180 rfl
theorem q1847 : (Jvm.Cond.instanceMethod ({ cls := "GraftTrees$Shapes", name := "add", desc := "(III)I" } : Jvm.MethodName)) ∈ lw_all := lw_g (lw_at lw_m7 181 rfl) rfl
theorem q1848 : (Jvm.Cond.code ({ cls := "GraftTrees$Shapes", name := "add", desc := "(III)I" } : Jvm.MethodName) prog_7_method_9_code (5 : Nat) (Option.some Jvm.ClassFile.FieldType.int)) ∈ lw_all := lw_g (lw_at lw_m7 182 rfl) rfl
theorem q1850 : (Jvm.Cond.instanceMethod ({ cls := "GraftTrees$Shapes", name := "wider", desc := "(II)I" } : Jvm.MethodName)) ∈ lw_all := lw_g (lw_at lw_m7 184 rfl) rfl
theorem q1851 : (Jvm.Cond.selects "GraftTrees$Shapes" ({ cls := "GraftTrees$Shapes", name := "wider", desc := "(II)I" } : Jvm.MethodName) ({ cls := "GraftTrees$Shapes", name := "wider", desc := "(II)I" } : Jvm.MethodName)) ∈ lw_all := lw_g (lw_at lw_m7 185 rfl) rfl
theorem q1852 : (Jvm.Cond.code ({ cls := "GraftTrees$Shapes", name := "wider", desc := "(II)I" } : Jvm.MethodName) prog_7_method_11_code (8 : Nat) (Option.some Jvm.ClassFile.FieldType.int)) ∈ lw_all := lw_g (lw_at lw_m7 186 rfl) rfl
theorem in_X5 : ∀ w ∈ wsX50, w ∈ lw_all := lw_in wsX50 [684, 686, 688, 690, 692, 694, 696, 698, 700, 702, 704, 706, 708] (by decide +kernel) (by decide +kernel)
/-! GraftTrees$Codes -/
def RX6 : String := "GraftTrees$Codes"
def TX6 : u_T := fun k => match k with
  | 0 => ("GraftTrees$Codes", "forest", "LGraftTrees$Forest;", true)
  | 1 => ("GraftTrees$Codes", "root", "[I", true)
  | 2 => ("GraftTrees$Codes", "first", "[I", true)
  | 3 => ("GraftTrees$Codes", "units", "[I", true)
  | 4 => ("GraftTrees$Codes", "nodes", "[I", true)
  | 5 => ("GraftTrees$Codes", "guards", "[I", true)
  | 6 => ("GraftTrees$Codes", "entered", "[I", true)
  | 7 => ("GraftTrees$Codes", "exits", "[I", true)
  | 8 => ("GraftTrees$Codes", "falls", "[I", true)
  | 9 => ("GraftTrees$Codes", "isValid", "[Z", true)
  | 10 => ("GraftTrees$Codes", "count", "I", false)
  | 11 => ("GraftTrees$Codes", "all", "I", false)
  | 12 => ("GraftTrees$Codes", "size", "I", false)
  | 13 => ("GraftTrees$Codes", "unitRoot", "[I", true)
  | 14 => ("GraftTrees$Codes", "around", "[I", true)
  | 15 => ("GraftTrees$Codes", "call", "[I", true)
  | 16 => ("GraftTrees$Codes", "begin", "[I", true)
  | 17 => ("GraftTrees$Codes", "walk", "[I", true)
  | 18 => ("GraftTrees$Codes", "queue", "[I", true)
  | _ => ("GraftTrees$Codes", "waits", "I", false)
def tyX6 : Nat → FieldType := fun k => match k with
  | 0 => .object "GraftTrees$Forest"
  | 1 => .array .int
  | 2 => .array .int
  | 3 => .array .int
  | 4 => .array .int
  | 5 => .array .int
  | 6 => .array .int
  | 7 => .array .int
  | 8 => .array .int
  | 9 => .array .boolean
  | 10 => .int
  | 11 => .int
  | 12 => .int
  | 13 => .array .int
  | 14 => .array .int
  | 15 => .array .int
  | 16 => .array .int
  | 17 => .array .int
  | 18 => .array .int
  | _ => .int
abbrev wsX60 : List Cond := u_ws RX6 TX6 20
theorem nmX6 : ∀ a, a < 20 → ∀ b, b < 20 → a ≠ b → (TX6 a).2.1 ≠ (TX6 b).2.1 := by decide +kernel
theorem tyX6_ok : ∀ k, k < 20 → parseFieldDescriptor (TX6 k).2.2.1 = some (tyX6 k) := by decide +kernel
abbrev cX6_init : ByteArray := prog_2_method_1_code
def yX6_init : MethodName := ⟨RX6, "<init>", "(LGraftTrees$Forest;)V"⟩
abbrev cX6_clear : ByteArray := prog_2_method_2_code
def yX6_clear : MethodName := ⟨RX6, "clear", "()V"⟩
abbrev cX6_more : ByteArray := prog_2_method_4_code
def yX6_more : MethodName := ⟨RX6, "more", "(I)I"⟩
abbrev cX6_start : ByteArray := prog_2_method_20_code
def yX6_start : MethodName := ⟨RX6, "start", "(II)I"⟩
abbrev cX6_heats : ByteArray := prog_2_method_5_code
def yX6_heats : MethodName := ⟨RX6, "heats", "(II)V"⟩
abbrev cX6_place : ByteArray := prog_2_method_3_code
def yX6_place : MethodName := ⟨RX6, "place", "(I)I"⟩
abbrev cX6_changed : ByteArray := prog_2_method_14_code
def yX6_changed : MethodName := ⟨RX6, "changed", "(I)V"⟩
abbrev cX6_ends : ByteArray := prog_2_method_13_code
def yX6_ends : MethodName := ⟨RX6, "ends", "(I)V"⟩
abbrev cX6_obsolete : ByteArray := prog_2_method_17_code
def yX6_obsolete : MethodName := ⟨RX6, "obsolete", "(I)V"⟩
abbrev cX6_has : ByteArray := prog_2_method_18_code
def yX6_has : MethodName := ⟨RX6, "has", "(II)Z"⟩
abbrev cX6_defined : ByteArray := prog_2_method_15_code
def yX6_defined : MethodName := ⟨RX6, "defined", "(I)V"⟩
abbrev cX6_calls : ByteArray := prog_2_method_16_code
def yX6_calls : MethodName := ⟨RX6, "calls", "(II)Z"⟩
abbrev cX6_unit : ByteArray := prog_2_method_19_code
def yX6_unit : MethodName := ⟨RX6, "unit", "(IIII)I"⟩
abbrev cX6_compile : ByteArray := prog_2_method_6_code
def yX6_compile : MethodName := ⟨RX6, "compile", "()I"⟩
abbrev cX6_make : ByteArray := prog_2_method_7_code
def yX6_make : MethodName := ⟨RX6, "make", "(I)V"⟩
abbrev cX6_adds : ByteArray := prog_2_method_8_code
def yX6_adds : MethodName := ⟨RX6, "adds", "(IIII)V"⟩
abbrev cX6_inlines : ByteArray := prog_2_method_9_code
def yX6_inlines : MethodName := ⟨RX6, "inlines", "(II)V"⟩
abbrev cX6_lays : ByteArray := prog_2_method_10_code
def yX6_lays : MethodName := ⟨RX6, "lays", "(I)V"⟩
abbrev cX6_guardsOf : ByteArray := prog_2_method_12_code
def yX6_guardsOf : MethodName := ⟨RX6, "guardsOf", "(I)I"⟩
abbrev cX6_isSure : ByteArray := prog_2_method_11_code
def yX6_isSure : MethodName := ⟨RX6, "isSure", "(I)Z"⟩
theorem q237 : (Jvm.Cond.initialized "GraftTrees$Codes") ∈ lw_all := lw_g (lw_at lw_m1 11 rfl) rfl
theorem q467 : (Jvm.Cond.fieldLinkNest "GraftTrees$Codes" (128 : Nat) "GraftTrees$Forest" "kind" "[I" "GraftTrees") ∈ lw_tbl := lw_at lw_m2 1 rfl
theorem q474 : (Jvm.Cond.fieldLinkNest "GraftTrees$Codes" (148 : Nat) "GraftTrees$Forest" "state" "[I" "GraftTrees") ∈ lw_tbl := lw_at lw_m2 8 rfl
theorem q485 : (Jvm.Cond.fieldLinkNest "GraftTrees$Codes" (160 : Nat) "GraftTrees$Forest" "end" "[I" "GraftTrees") ∈ lw_tbl := lw_at lw_m2 19 rfl
theorem q488 : (Jvm.Cond.fieldLinkNest "GraftTrees$Codes" (154 : Nat) "GraftTrees$Forest" "constKind" "[I" "GraftTrees") ∈ lw_tbl := lw_at lw_m2 22 rfl
theorem q492 : (Jvm.Cond.fieldLinkNest "GraftTrees$Codes" (131 : Nat) "GraftTrees$Forest" "entries" "[I" "GraftTrees") ∈ lw_tbl := lw_at lw_m2 26 rfl
theorem q496 : (Jvm.Cond.fieldLinkNest "GraftTrees$Codes" (134 : Nat) "GraftTrees$Forest" "entry" "[I" "GraftTrees") ∈ lw_tbl := lw_at lw_m2 30 rfl
theorem q502 : (Jvm.Cond.fieldLinkNest "GraftTrees$Codes" (142 : Nat) "GraftTrees$Forest" "op" "[I" "GraftTrees") ∈ lw_tbl := lw_at lw_m2 36 rfl
theorem q505 : (Jvm.Cond.fieldLinkNest "GraftTrees$Codes" (151 : Nat) "GraftTrees$Forest" "to" "[I" "GraftTrees") ∈ lw_tbl := lw_at lw_m2 39 rfl
theorem q508 : (Jvm.Cond.fieldLinkNest "GraftTrees$Codes" (145 : Nat) "GraftTrees$Forest" "of" "[I" "GraftTrees") ∈ lw_tbl := lw_at lw_m2 42 rfl
theorem q520 : (Jvm.Cond.fieldLinkNest "GraftTrees$Codes" (169 : Nat) "GraftTrees$Forest" "fun" "[I" "GraftTrees") ∈ lw_tbl := lw_at lw_m2 54 rfl
theorem q523 : (Jvm.Cond.fieldLinkNest "GraftTrees$Codes" (122 : Nat) "GraftTrees$Forest" "from" "[I" "GraftTrees") ∈ lw_tbl := lw_at lw_m2 57 rfl
theorem q526 : (Jvm.Cond.fieldLinkNest "GraftTrees$Codes" (120 : Nat) "GraftTrees$Forest" "count" "[I" "GraftTrees") ∈ lw_tbl := lw_at lw_m2 60 rfl
theorem q529 : (Jvm.Cond.fieldLinkNest "GraftTrees$Codes" (141 : Nat) "GraftTrees$Forest" "begin" "[I" "GraftTrees") ∈ lw_tbl := lw_at lw_m2 63 rfl
theorem q532 : (Jvm.Cond.fieldLinkNest "GraftTrees$Codes" (138 : Nat) "GraftTrees$Forest" "length" "[I" "GraftTrees") ∈ lw_tbl := lw_at lw_m2 66 rfl
theorem q539 : (Jvm.Cond.fieldLinkNest "GraftTrees$Codes" (85 : Nat) "GraftTrees$Forest" "heat" "[I" "GraftTrees") ∈ lw_tbl := lw_at lw_m2 73 rfl
theorem q542 : (Jvm.Cond.fieldLinkNest "GraftTrees$Codes" (98 : Nat) "GraftTrees$Forest" "made" "[I" "GraftTrees") ∈ lw_tbl := lw_at lw_m2 76 rfl
theorem q545 : (Jvm.Cond.fieldLinkNest "GraftTrees$Codes" (95 : Nat) "GraftTrees$Forest" "valid" "[I" "GraftTrees") ∈ lw_tbl := lw_at lw_m2 79 rfl
theorem q712 : (Jvm.Cond.instantiable "GraftTrees$Codes" (20 : Nat)) ∈ lw_all := lw_g (lw_at lw_m3 6 rfl) rfl
theorem q714 : (Jvm.Cond.instanceMethod ({ cls := "GraftTrees$Codes", name := "<init>", desc := "(LGraftTrees$Forest;)V" } : Jvm.MethodName)) ∈ lw_all := lw_g (lw_at lw_m3 8 rfl) rfl
theorem q715 : (Jvm.Cond.code ({ cls := "GraftTrees$Codes", name := "<init>", desc := "(LGraftTrees$Forest;)V" } : Jvm.MethodName) prog_2_method_1_code (2 : Nat) (Option.none : Option Jvm.ClassFile.FieldType)) ∈ lw_all := lw_g (lw_at lw_m3 9 rfl) rfl
theorem q716 : (Jvm.Cond.methodLink "GraftTrees$Codes" (3 : Nat) ({ cls := "java/lang/Object", name := "<init>", desc := "()V" } : Jvm.MethodName)) ∈ lw_all := lw_g (lw_at lw_m3 10 rfl) rfl
theorem q717 : (Jvm.Cond.constant "GraftTrees$Codes" (54 : Nat) (100000 : Int32)) ∈ lw_all := lw_g (lw_at lw_m3 11 rfl) rfl
theorem q718 : (Jvm.Cond.fieldLink "GraftTrees$Codes" (61 : Nat) "GraftTrees$Codes" "forest" "LGraftTrees$Forest;") ∈ lw_all := lw_g (lw_at lw_m3 12 rfl) rfl
theorem q719 : (Jvm.Cond.fieldLink "GraftTrees$Codes" (9 : Nat) "GraftTrees$Codes" "root" "[I") ∈ lw_all := lw_g (lw_at lw_m3 13 rfl) rfl
theorem q721 : (Jvm.Cond.fieldLink "GraftTrees$Codes" (15 : Nat) "GraftTrees$Codes" "first" "[I") ∈ lw_all := lw_g (lw_at lw_m3 15 rfl) rfl
theorem q723 : (Jvm.Cond.fieldLink "GraftTrees$Codes" (18 : Nat) "GraftTrees$Codes" "units" "[I") ∈ lw_all := lw_g (lw_at lw_m3 17 rfl) rfl
theorem q725 : (Jvm.Cond.fieldLink "GraftTrees$Codes" (21 : Nat) "GraftTrees$Codes" "nodes" "[I") ∈ lw_all := lw_g (lw_at lw_m3 19 rfl) rfl
theorem q727 : (Jvm.Cond.fieldLink "GraftTrees$Codes" (24 : Nat) "GraftTrees$Codes" "guards" "[I") ∈ lw_all := lw_g (lw_at lw_m3 21 rfl) rfl
theorem q729 : (Jvm.Cond.fieldLink "GraftTrees$Codes" (27 : Nat) "GraftTrees$Codes" "entered" "[I") ∈ lw_all := lw_g (lw_at lw_m3 23 rfl) rfl
theorem q732 : (Jvm.Cond.fieldLink "GraftTrees$Codes" (30 : Nat) "GraftTrees$Codes" "exits" "[I") ∈ lw_all := lw_g (lw_at lw_m3 26 rfl) rfl
theorem q735 : (Jvm.Cond.fieldLink "GraftTrees$Codes" (33 : Nat) "GraftTrees$Codes" "falls" "[I") ∈ lw_all := lw_g (lw_at lw_m3 29 rfl) rfl
theorem q738 : (Jvm.Cond.fieldLink "GraftTrees$Codes" (36 : Nat) "GraftTrees$Codes" "isValid" "[Z") ∈ lw_all := lw_g (lw_at lw_m3 32 rfl) rfl
theorem q741 : (Jvm.Cond.fieldLink "GraftTrees$Codes" (65 : Nat) "GraftTrees$Codes" "count" "I") ∈ lw_all := lw_g (lw_at lw_m3 35 rfl) rfl
theorem q743 : (Jvm.Cond.fieldLink "GraftTrees$Codes" (69 : Nat) "GraftTrees$Codes" "all" "I") ∈ lw_all := lw_g (lw_at lw_m3 37 rfl) rfl
theorem q744 : (Jvm.Cond.fieldLink "GraftTrees$Codes" (72 : Nat) "GraftTrees$Codes" "size" "I") ∈ lw_all := lw_g (lw_at lw_m3 38 rfl) rfl
theorem q745 : (Jvm.Cond.fieldLink "GraftTrees$Codes" (40 : Nat) "GraftTrees$Codes" "unitRoot" "[I") ∈ lw_all := lw_g (lw_at lw_m3 39 rfl) rfl
theorem q747 : (Jvm.Cond.fieldLink "GraftTrees$Codes" (43 : Nat) "GraftTrees$Codes" "around" "[I") ∈ lw_all := lw_g (lw_at lw_m3 41 rfl) rfl
theorem q748 : (Jvm.Cond.fieldLink "GraftTrees$Codes" (46 : Nat) "GraftTrees$Codes" "call" "[I") ∈ lw_all := lw_g (lw_at lw_m3 42 rfl) rfl
theorem q749 : (Jvm.Cond.fieldLink "GraftTrees$Codes" (49 : Nat) "GraftTrees$Codes" "begin" "[I") ∈ lw_all := lw_g (lw_at lw_m3 43 rfl) rfl
theorem q750 : (Jvm.Cond.fieldLink "GraftTrees$Codes" (55 : Nat) "GraftTrees$Codes" "walk" "[I") ∈ lw_all := lw_g (lw_at lw_m3 44 rfl) rfl
theorem q752 : (Jvm.Cond.fieldLink "GraftTrees$Codes" (58 : Nat) "GraftTrees$Codes" "queue" "[I") ∈ lw_all := lw_g (lw_at lw_m3 46 rfl) rfl
theorem q753 : (Jvm.Cond.fieldLink "GraftTrees$Codes" (75 : Nat) "GraftTrees$Codes" "waits" "I") ∈ lw_all := lw_g (lw_at lw_m3 47 rfl) rfl
theorem q755 : (Jvm.Cond.laysFinal "GraftTrees$Codes" "GraftTrees$Codes" "forest" "LGraftTrees$Forest;") ∈ lw_all := lw_g (lw_at lw_m3 49 rfl) rfl
theorem q756 : (Jvm.Cond.soleField "GraftTrees$Codes" "forest") ∈ lw_all := lw_g (lw_at lw_m3 50 rfl) rfl
theorem q757 : (Jvm.Cond.laysFinal "GraftTrees$Codes" "GraftTrees$Codes" "root" "[I") ∈ lw_all := lw_g (lw_at lw_m3 51 rfl) rfl
theorem q758 : (Jvm.Cond.soleField "GraftTrees$Codes" "root") ∈ lw_all := lw_g (lw_at lw_m3 52 rfl) rfl
theorem q759 : (Jvm.Cond.laysFinal "GraftTrees$Codes" "GraftTrees$Codes" "first" "[I") ∈ lw_all := lw_g (lw_at lw_m3 53 rfl) rfl
theorem q760 : (Jvm.Cond.soleField "GraftTrees$Codes" "first") ∈ lw_all := lw_g (lw_at lw_m3 54 rfl) rfl
theorem q761 : (Jvm.Cond.laysFinal "GraftTrees$Codes" "GraftTrees$Codes" "units" "[I") ∈ lw_all := lw_g (lw_at lw_m3 55 rfl) rfl
theorem q762 : (Jvm.Cond.soleField "GraftTrees$Codes" "units") ∈ lw_all := lw_g (lw_at lw_m3 56 rfl) rfl
theorem q763 : (Jvm.Cond.laysFinal "GraftTrees$Codes" "GraftTrees$Codes" "nodes" "[I") ∈ lw_all := lw_g (lw_at lw_m3 57 rfl) rfl
theorem q764 : (Jvm.Cond.soleField "GraftTrees$Codes" "nodes") ∈ lw_all := lw_g (lw_at lw_m3 58 rfl) rfl
theorem q765 : (Jvm.Cond.laysFinal "GraftTrees$Codes" "GraftTrees$Codes" "guards" "[I") ∈ lw_all := lw_g (lw_at lw_m3 59 rfl) rfl
theorem q766 : (Jvm.Cond.soleField "GraftTrees$Codes" "guards") ∈ lw_all := lw_g (lw_at lw_m3 60 rfl) rfl
theorem q767 : (Jvm.Cond.laysFinal "GraftTrees$Codes" "GraftTrees$Codes" "entered" "[I") ∈ lw_all := lw_g (lw_at lw_m3 61 rfl) rfl
theorem q768 : (Jvm.Cond.soleField "GraftTrees$Codes" "entered") ∈ lw_all := lw_g (lw_at lw_m3 62 rfl) rfl
theorem q769 : (Jvm.Cond.laysFinal "GraftTrees$Codes" "GraftTrees$Codes" "exits" "[I") ∈ lw_all := lw_g (lw_at lw_m3 63 rfl) rfl
theorem q770 : (Jvm.Cond.soleField "GraftTrees$Codes" "exits") ∈ lw_all := lw_g (lw_at lw_m3 64 rfl) rfl
theorem q771 : (Jvm.Cond.laysFinal "GraftTrees$Codes" "GraftTrees$Codes" "falls" "[I") ∈ lw_all := lw_g (lw_at lw_m3 65 rfl) rfl
theorem q772 : (Jvm.Cond.soleField "GraftTrees$Codes" "falls") ∈ lw_all := lw_g (lw_at lw_m3 66 rfl) rfl
theorem q773 : (Jvm.Cond.laysFinal "GraftTrees$Codes" "GraftTrees$Codes" "isValid" "[Z") ∈ lw_all := lw_g (lw_at lw_m3 67 rfl) rfl
theorem q774 : (Jvm.Cond.soleField "GraftTrees$Codes" "isValid") ∈ lw_all := lw_g (lw_at lw_m3 68 rfl) rfl
theorem q775 : (Jvm.Cond.lays "GraftTrees$Codes" "GraftTrees$Codes" "count" "I") ∈ lw_all := lw_g (lw_at lw_m3 69 rfl) rfl
theorem q776 : (Jvm.Cond.soleField "GraftTrees$Codes" "count") ∈ lw_all := lw_g (lw_at lw_m3 70 rfl) rfl
theorem q777 : (Jvm.Cond.lays "GraftTrees$Codes" "GraftTrees$Codes" "all" "I") ∈ lw_all := lw_g (lw_at lw_m3 71 rfl) rfl
theorem q778 : (Jvm.Cond.soleField "GraftTrees$Codes" "all") ∈ lw_all := lw_g (lw_at lw_m3 72 rfl) rfl
theorem q779 : (Jvm.Cond.lays "GraftTrees$Codes" "GraftTrees$Codes" "size" "I") ∈ lw_all := lw_g (lw_at lw_m3 73 rfl) rfl
theorem q780 : (Jvm.Cond.soleField "GraftTrees$Codes" "size") ∈ lw_all := lw_g (lw_at lw_m3 74 rfl) rfl
theorem q781 : (Jvm.Cond.laysFinal "GraftTrees$Codes" "GraftTrees$Codes" "unitRoot" "[I") ∈ lw_all := lw_g (lw_at lw_m3 75 rfl) rfl
theorem q782 : (Jvm.Cond.soleField "GraftTrees$Codes" "unitRoot") ∈ lw_all := lw_g (lw_at lw_m3 76 rfl) rfl
theorem q783 : (Jvm.Cond.laysFinal "GraftTrees$Codes" "GraftTrees$Codes" "around" "[I") ∈ lw_all := lw_g (lw_at lw_m3 77 rfl) rfl
theorem q784 : (Jvm.Cond.soleField "GraftTrees$Codes" "around") ∈ lw_all := lw_g (lw_at lw_m3 78 rfl) rfl
theorem q785 : (Jvm.Cond.laysFinal "GraftTrees$Codes" "GraftTrees$Codes" "call" "[I") ∈ lw_all := lw_g (lw_at lw_m3 79 rfl) rfl
theorem q786 : (Jvm.Cond.soleField "GraftTrees$Codes" "call") ∈ lw_all := lw_g (lw_at lw_m3 80 rfl) rfl
theorem q787 : (Jvm.Cond.laysFinal "GraftTrees$Codes" "GraftTrees$Codes" "begin" "[I") ∈ lw_all := lw_g (lw_at lw_m3 81 rfl) rfl
theorem q788 : (Jvm.Cond.soleField "GraftTrees$Codes" "begin") ∈ lw_all := lw_g (lw_at lw_m3 82 rfl) rfl
theorem q789 : (Jvm.Cond.laysFinal "GraftTrees$Codes" "GraftTrees$Codes" "walk" "[I") ∈ lw_all := lw_g (lw_at lw_m3 83 rfl) rfl
theorem q790 : (Jvm.Cond.soleField "GraftTrees$Codes" "walk") ∈ lw_all := lw_g (lw_at lw_m3 84 rfl) rfl
theorem q791 : (Jvm.Cond.laysFinal "GraftTrees$Codes" "GraftTrees$Codes" "queue" "[I") ∈ lw_all := lw_g (lw_at lw_m3 85 rfl) rfl
theorem q792 : (Jvm.Cond.soleField "GraftTrees$Codes" "queue") ∈ lw_all := lw_g (lw_at lw_m3 86 rfl) rfl
theorem q793 : (Jvm.Cond.lays "GraftTrees$Codes" "GraftTrees$Codes" "waits" "I") ∈ lw_all := lw_g (lw_at lw_m3 87 rfl) rfl
theorem q794 : (Jvm.Cond.soleField "GraftTrees$Codes" "waits") ∈ lw_all := lw_g (lw_at lw_m3 88 rfl) rfl
theorem q795 : (Jvm.Cond.superclass "GraftTrees$Codes" "java/lang/Object") ∈ lw_all := lw_g (lw_at lw_m3 89 rfl) rfl
theorem q1445 : (Jvm.Cond.instanceMethod ({ cls := "GraftTrees$Codes", name := "clear", desc := "()V" } : Jvm.MethodName)) ∈ lw_all := lw_g (lw_at lw_m6 19 rfl) rfl
theorem q1446 : (Jvm.Cond.selects "GraftTrees$Codes" ({ cls := "GraftTrees$Codes", name := "clear", desc := "()V" } : Jvm.MethodName) ({ cls := "GraftTrees$Codes", name := "clear", desc := "()V" } : Jvm.MethodName)) ∈ lw_all := lw_g (lw_at lw_m6 20 rfl) rfl
theorem q1447 : (Jvm.Cond.code ({ cls := "GraftTrees$Codes", name := "clear", desc := "()V" } : Jvm.MethodName) prog_2_method_2_code (1 : Nat) (Option.none : Option Jvm.ClassFile.FieldType)) ∈ lw_all := lw_g (lw_at lw_m6 21 rfl) rfl
theorem q1558 : (Jvm.Cond.static ({ cls := "GraftTrees$Codes", name := "more", desc := "(I)I" } : Jvm.MethodName)) ∈ lw_all := lw_g (lw_at lw_m6 132 rfl) rfl
theorem q1559 : (Jvm.Cond.code ({ cls := "GraftTrees$Codes", name := "more", desc := "(I)I" } : Jvm.MethodName) prog_2_method_4_code (1 : Nat) (Option.some Jvm.ClassFile.FieldType.int)) ∈ lw_all := lw_g (lw_at lw_m6 133 rfl) rfl
theorem q1560 : (Jvm.Cond.constant "GraftTrees$Codes" (78 : Nat) (1000000000 : Int32)) ∈ lw_all := lw_g (lw_at lw_m6 134 rfl) rfl
theorem q1561 : (Jvm.Cond.methodLink "GraftTrees$Codes" (79 : Nat) ({ cls := "java/lang/Math", name := "min", desc := "(II)I" } : Jvm.MethodName)) ∈ lw_all := lw_g (lw_at lw_m6 135 rfl) rfl
theorem q1568 : (Jvm.Cond.instanceMethod ({ cls := "GraftTrees$Codes", name := "start", desc := "(II)I" } : Jvm.MethodName)) ∈ lw_all := lw_g (lw_at lw_m6 142 rfl) rfl
theorem q1569 : (Jvm.Cond.selects "GraftTrees$Codes" ({ cls := "GraftTrees$Codes", name := "start", desc := "(II)I" } : Jvm.MethodName) ({ cls := "GraftTrees$Codes", name := "start", desc := "(II)I" } : Jvm.MethodName)) ∈ lw_all := lw_g (lw_at lw_m6 143 rfl) rfl
theorem q1570 : (Jvm.Cond.code ({ cls := "GraftTrees$Codes", name := "start", desc := "(II)I" } : Jvm.MethodName) prog_2_method_20_code (3 : Nat) (Option.some Jvm.ClassFile.FieldType.int)) ∈ lw_all := lw_g (lw_at lw_m6 144 rfl) rfl
theorem q1572 : (Jvm.Cond.instanceMethod ({ cls := "GraftTrees$Codes", name := "heats", desc := "(II)V" } : Jvm.MethodName)) ∈ lw_all := lw_g (lw_at lw_m6 146 rfl) rfl
theorem q1573 : (Jvm.Cond.selects "GraftTrees$Codes" ({ cls := "GraftTrees$Codes", name := "heats", desc := "(II)V" } : Jvm.MethodName) ({ cls := "GraftTrees$Codes", name := "heats", desc := "(II)V" } : Jvm.MethodName)) ∈ lw_all := lw_g (lw_at lw_m6 147 rfl) rfl
theorem q1574 : (Jvm.Cond.code ({ cls := "GraftTrees$Codes", name := "heats", desc := "(II)V" } : Jvm.MethodName) prog_2_method_5_code (3 : Nat) (Option.none : Option Jvm.ClassFile.FieldType)) ∈ lw_all := lw_g (lw_at lw_m6 148 rfl) rfl
theorem q1575 : (Jvm.Cond.methodLink "GraftTrees$Codes" (88 : Nat) ({ cls := "GraftTrees$Codes", name := "more", desc := "(I)I" } : Jvm.MethodName)) ∈ lw_all := lw_g (lw_at lw_m6 149 rfl) rfl
theorem q1576 : (Jvm.Cond.methodLink "GraftTrees$Codes" (92 : Nat) ({ cls := "GraftTrees$Codes", name := "place", desc := "(I)I" } : Jvm.MethodName)) ∈ lw_all := lw_g (lw_at lw_m6 150 rfl) rfl
theorem q1577 : (Jvm.Cond.instanceMethod ({ cls := "GraftTrees$Codes", name := "place", desc := "(I)I" } : Jvm.MethodName)) ∈ lw_all := lw_g (lw_at lw_m6 151 rfl) rfl
theorem q1578 : (Jvm.Cond.selects "GraftTrees$Codes" ({ cls := "GraftTrees$Codes", name := "place", desc := "(I)I" } : Jvm.MethodName) ({ cls := "GraftTrees$Codes", name := "place", desc := "(I)I" } : Jvm.MethodName)) ∈ lw_all := lw_g (lw_at lw_m6 152 rfl) rfl
theorem q1579 : (Jvm.Cond.code ({ cls := "GraftTrees$Codes", name := "place", desc := "(I)I" } : Jvm.MethodName) prog_2_method_3_code (3 : Nat) (Option.some Jvm.ClassFile.FieldType.int)) ∈ lw_all := lw_g (lw_at lw_m6 153 rfl) rfl
theorem q1580 : (Jvm.Cond.methodLink "GraftTrees$Codes" (101 : Nat) ({ cls := "GraftTrees$Forest", name := "isNewest", desc := "(I)Z" } : Jvm.MethodName)) ∈ lw_all := lw_g (lw_at lw_m6 154 rfl) rfl
theorem q1606 : (Jvm.Cond.instanceMethod ({ cls := "GraftTrees$Codes", name := "changed", desc := "(I)V" } : Jvm.MethodName)) ∈ lw_all := lw_g (lw_at lw_m6 180 rfl) rfl
theorem q1607 : (Jvm.Cond.selects "GraftTrees$Codes" ({ cls := "GraftTrees$Codes", name := "changed", desc := "(I)V" } : Jvm.MethodName) ({ cls := "GraftTrees$Codes", name := "changed", desc := "(I)V" } : Jvm.MethodName)) ∈ lw_all := lw_g (lw_at lw_m6 181 rfl) rfl
theorem q1608 : (Jvm.Cond.code ({ cls := "GraftTrees$Codes", name := "changed", desc := "(I)V" } : Jvm.MethodName) prog_2_method_14_code (5 : Nat) (Option.none : Option Jvm.ClassFile.FieldType)) ∈ lw_all := lw_g (lw_at lw_m6 182 rfl) rfl
theorem q1609 : (Jvm.Cond.methodLink "GraftTrees$Codes" (166 : Nat) ({ cls := "GraftTrees$Codes", name := "ends", desc := "(I)V" } : Jvm.MethodName)) ∈ lw_all := lw_g (lw_at lw_m6 183 rfl) rfl
theorem q1610 : (Jvm.Cond.privateMethod ({ cls := "GraftTrees$Codes", name := "ends", desc := "(I)V" } : Jvm.MethodName)) ∈ lw_tbl := lw_at lw_m6 184 rfl
theorem q1611 : (Jvm.Cond.instanceMethod ({ cls := "GraftTrees$Codes", name := "ends", desc := "(I)V" } : Jvm.MethodName)) ∈ lw_all := lw_g (lw_at lw_m6 185 rfl) rfl
theorem q1612 : (Jvm.Cond.code ({ cls := "GraftTrees$Codes", name := "ends", desc := "(I)V" } : Jvm.MethodName) prog_2_method_13_code (2 : Nat) (Option.none : Option Jvm.ClassFile.FieldType)) ∈ lw_all := lw_g (lw_at lw_m6 186 rfl) rfl
theorem q1854 : (Jvm.Cond.instanceMethod ({ cls := "GraftTrees$Codes", name := "obsolete", desc := "(I)V" } : Jvm.MethodName)) ∈ lw_all := lw_g (lw_at lw_m7 188 rfl) rfl
theorem q1855 : (Jvm.Cond.selects "GraftTrees$Codes" ({ cls := "GraftTrees$Codes", name := "obsolete", desc := "(I)V" } : Jvm.MethodName) ({ cls := "GraftTrees$Codes", name := "obsolete", desc := "(I)V" } : Jvm.MethodName)) ∈ lw_all := lw_g (lw_at lw_m7 189 rfl) rfl
theorem q1856 : (Jvm.Cond.code ({ cls := "GraftTrees$Codes", name := "obsolete", desc := "(I)V" } : Jvm.MethodName) prog_2_method_17_code (5 : Nat) (Option.none : Option Jvm.ClassFile.FieldType)) ∈ lw_all := lw_g (lw_at lw_m7 190 rfl) rfl
theorem q1857 : (Jvm.Cond.methodLink "GraftTrees$Codes" (176 : Nat) ({ cls := "GraftTrees$Codes", name := "has", desc := "(II)Z" } : Jvm.MethodName)) ∈ lw_all := lw_g (lw_at lw_m7 191 rfl) rfl
theorem q1858 : (Jvm.Cond.privateMethod ({ cls := "GraftTrees$Codes", name := "has", desc := "(II)Z" } : Jvm.MethodName)) ∈ lw_tbl := lw_at lw_m7 192 rfl
theorem q1859 : (Jvm.Cond.instanceMethod ({ cls := "GraftTrees$Codes", name := "has", desc := "(II)Z" } : Jvm.MethodName)) ∈ lw_all := lw_g (lw_at lw_m7 193 rfl) rfl
theorem q1860 : (Jvm.Cond.code ({ cls := "GraftTrees$Codes", name := "has", desc := "(II)Z" } : Jvm.MethodName) prog_2_method_18_code (5 : Nat) (Option.some Jvm.ClassFile.FieldType.boolean)) ∈ lw_all := lw_g (lw_at lw_m7 194 rfl) rfl
theorem q1880 : (Jvm.Cond.instanceMethod ({ cls := "GraftTrees$Codes", name := "defined", desc := "(I)V" } : Jvm.MethodName)) ∈ lw_all := lw_g (lw_at lw_m7 214 rfl) rfl
theorem q1881 : (Jvm.Cond.selects "GraftTrees$Codes" ({ cls := "GraftTrees$Codes", name := "defined", desc := "(I)V" } : Jvm.MethodName) ({ cls := "GraftTrees$Codes", name := "defined", desc := "(I)V" } : Jvm.MethodName)) ∈ lw_all := lw_g (lw_at lw_m7 215 rfl) rfl
theorem q1882 : (Jvm.Cond.code ({ cls := "GraftTrees$Codes", name := "defined", desc := "(I)V" } : Jvm.MethodName) prog_2_method_15_code (5 : Nat) (Option.none : Option Jvm.ClassFile.FieldType)) ∈ lw_all := lw_g (lw_at lw_m7 216 rfl) rfl
theorem q1883 : (Jvm.Cond.methodLink "GraftTrees$Codes" (172 : Nat) ({ cls := "GraftTrees$Codes", name := "calls", desc := "(II)Z" } : Jvm.MethodName)) ∈ lw_all := lw_g (lw_at lw_m7 217 rfl) rfl
theorem q1884 : (Jvm.Cond.privateMethod ({ cls := "GraftTrees$Codes", name := "calls", desc := "(II)Z" } : Jvm.MethodName)) ∈ lw_tbl := lw_at lw_m7 218 rfl
theorem q1885 : (Jvm.Cond.instanceMethod ({ cls := "GraftTrees$Codes", name := "calls", desc := "(II)Z" } : Jvm.MethodName)) ∈ lw_all := lw_g (lw_at lw_m7 219 rfl) rfl
theorem q1886 : (Jvm.Cond.code ({ cls := "GraftTrees$Codes", name := "calls", desc := "(II)Z" } : Jvm.MethodName) prog_2_method_16_code (5 : Nat) (Option.some Jvm.ClassFile.FieldType.boolean)) ∈ lw_all := lw_g (lw_at lw_m7 220 rfl) rfl
theorem q1888 : (Jvm.Cond.instanceMethod ({ cls := "GraftTrees$Codes", name := "unit", desc := "(IIII)I" } : Jvm.MethodName)) ∈ lw_all := lw_g (lw_at lw_m7 222 rfl) rfl
theorem q1889 : (Jvm.Cond.selects "GraftTrees$Codes" ({ cls := "GraftTrees$Codes", name := "unit", desc := "(IIII)I" } : Jvm.MethodName) ({ cls := "GraftTrees$Codes", name := "unit", desc := "(IIII)I" } : Jvm.MethodName)) ∈ lw_all := lw_g (lw_at lw_m7 223 rfl) rfl
theorem q1890 : (Jvm.Cond.code ({ cls := "GraftTrees$Codes", name := "unit", desc := "(IIII)I" } : Jvm.MethodName) prog_2_method_19_code (6 : Nat) (Option.some Jvm.ClassFile.FieldType.int)) ∈ lw_all := lw_g (lw_at lw_m7 224 rfl) rfl
theorem q1925 : (Jvm.Cond.instanceMethod ({ cls := "GraftTrees$Codes", name := "compile", desc := "()I" } : Jvm.MethodName)) ∈ lw_all := lw_g (lw_at lw_m8 19 rfl) rfl
theorem q1926 : (Jvm.Cond.selects "GraftTrees$Codes" ({ cls := "GraftTrees$Codes", name := "compile", desc := "()I" } : Jvm.MethodName) ({ cls := "GraftTrees$Codes", name := "compile", desc := "()I" } : Jvm.MethodName)) ∈ lw_all := lw_g (lw_at lw_m8 20 rfl) rfl
theorem q1927 : (Jvm.Cond.code ({ cls := "GraftTrees$Codes", name := "compile", desc := "()I" } : Jvm.MethodName) prog_2_method_6_code (3 : Nat) (Option.some Jvm.ClassFile.FieldType.int)) ∈ lw_all := lw_g (lw_at lw_m8 21 rfl) rfl
theorem q1928 : (Jvm.Cond.methodLink "GraftTrees$Codes" (105 : Nat) ({ cls := "GraftTrees$Codes", name := "make", desc := "(I)V" } : Jvm.MethodName)) ∈ lw_all := lw_g (lw_at lw_m8 22 rfl) rfl
theorem q1929 : (Jvm.Cond.privateMethod ({ cls := "GraftTrees$Codes", name := "make", desc := "(I)V" } : Jvm.MethodName)) ∈ lw_tbl := lw_at lw_m8 23 rfl
theorem q1930 : (Jvm.Cond.instanceMethod ({ cls := "GraftTrees$Codes", name := "make", desc := "(I)V" } : Jvm.MethodName)) ∈ lw_all := lw_g (lw_at lw_m8 24 rfl) rfl
theorem q1931 : (Jvm.Cond.code ({ cls := "GraftTrees$Codes", name := "make", desc := "(I)V" } : Jvm.MethodName) prog_2_method_7_code (5 : Nat) (Option.none : Option Jvm.ClassFile.FieldType)) ∈ lw_all := lw_g (lw_at lw_m8 25 rfl) rfl
theorem q1932 : (Jvm.Cond.methodLink "GraftTrees$Codes" (109 : Nat) ({ cls := "GraftTrees$Codes", name := "adds", desc := "(IIII)V" } : Jvm.MethodName)) ∈ lw_all := lw_g (lw_at lw_m8 26 rfl) rfl
theorem q1933 : (Jvm.Cond.privateMethod ({ cls := "GraftTrees$Codes", name := "adds", desc := "(IIII)V" } : Jvm.MethodName)) ∈ lw_tbl := lw_at lw_m8 27 rfl
theorem q1934 : (Jvm.Cond.instanceMethod ({ cls := "GraftTrees$Codes", name := "adds", desc := "(IIII)V" } : Jvm.MethodName)) ∈ lw_all := lw_g (lw_at lw_m8 28 rfl) rfl
theorem q1935 : (Jvm.Cond.code ({ cls := "GraftTrees$Codes", name := "adds", desc := "(IIII)V" } : Jvm.MethodName) prog_2_method_8_code (5 : Nat) (Option.none : Option Jvm.ClassFile.FieldType)) ∈ lw_all := lw_g (lw_at lw_m8 29 rfl) rfl
theorem q1936 : (Jvm.Cond.methodLink "GraftTrees$Codes" (113 : Nat) ({ cls := "GraftTrees$Codes", name := "inlines", desc := "(II)V" } : Jvm.MethodName)) ∈ lw_all := lw_g (lw_at lw_m8 30 rfl) rfl
theorem q1937 : (Jvm.Cond.privateMethod ({ cls := "GraftTrees$Codes", name := "inlines", desc := "(II)V" } : Jvm.MethodName)) ∈ lw_tbl := lw_at lw_m8 31 rfl
theorem q1938 : (Jvm.Cond.instanceMethod ({ cls := "GraftTrees$Codes", name := "inlines", desc := "(II)V" } : Jvm.MethodName)) ∈ lw_all := lw_g (lw_at lw_m8 32 rfl) rfl
theorem q1939 : (Jvm.Cond.code ({ cls := "GraftTrees$Codes", name := "inlines", desc := "(II)V" } : Jvm.MethodName) prog_2_method_9_code (9 : Nat) (Option.none : Option Jvm.ClassFile.FieldType)) ∈ lw_all := lw_g (lw_at lw_m8 33 rfl) rfl
theorem q1940 : (Jvm.Cond.methodLink "GraftTrees$Codes" (117 : Nat) ({ cls := "GraftTrees$Codes", name := "lays", desc := "(I)V" } : Jvm.MethodName)) ∈ lw_all := lw_g (lw_at lw_m8 34 rfl) rfl
theorem q1941 : (Jvm.Cond.privateMethod ({ cls := "GraftTrees$Codes", name := "lays", desc := "(I)V" } : Jvm.MethodName)) ∈ lw_tbl := lw_at lw_m8 35 rfl
theorem q1942 : (Jvm.Cond.instanceMethod ({ cls := "GraftTrees$Codes", name := "lays", desc := "(I)V" } : Jvm.MethodName)) ∈ lw_all := lw_g (lw_at lw_m8 36 rfl) rfl
theorem q1943 : (Jvm.Cond.code ({ cls := "GraftTrees$Codes", name := "lays", desc := "(I)V" } : Jvm.MethodName) prog_2_method_10_code (9 : Nat) (Option.none : Option Jvm.ClassFile.FieldType)) ∈ lw_all := lw_g (lw_at lw_m8 37 rfl) rfl
theorem q1944 : (Jvm.Cond.constant "GraftTrees$Codes" (137 : Nat) (64000 : Int32)) ∈ lw_all := lw_g (lw_at lw_m8 38 rfl) rfl
theorem q1945 : (Jvm.Cond.methodLink "GraftTrees$Codes" (125 : Nat) ({ cls := "GraftTrees$Codes", name := "guardsOf", desc := "(I)I" } : Jvm.MethodName)) ∈ lw_all := lw_g (lw_at lw_m8 39 rfl) rfl
theorem q1946 : (Jvm.Cond.privateMethod ({ cls := "GraftTrees$Codes", name := "guardsOf", desc := "(I)I" } : Jvm.MethodName)) ∈ lw_tbl := lw_at lw_m8 40 rfl
theorem q1947 : (Jvm.Cond.instanceMethod ({ cls := "GraftTrees$Codes", name := "guardsOf", desc := "(I)I" } : Jvm.MethodName)) ∈ lw_all := lw_g (lw_at lw_m8 41 rfl) rfl
theorem q1948 : (Jvm.Cond.code ({ cls := "GraftTrees$Codes", name := "guardsOf", desc := "(I)I" } : Jvm.MethodName) prog_2_method_12_code (3 : Nat) (Option.some Jvm.ClassFile.FieldType.int)) ∈ lw_all := lw_g (lw_at lw_m8 42 rfl) rfl
theorem q1949 : (Jvm.Cond.methodLink "GraftTrees$Codes" (157 : Nat) ({ cls := "GraftTrees$Codes", name := "isSure", desc := "(I)Z" } : Jvm.MethodName)) ∈ lw_all := lw_g (lw_at lw_m8 43 rfl) rfl
theorem q1950 : (Jvm.Cond.privateMethod ({ cls := "GraftTrees$Codes", name := "isSure", desc := "(I)Z" } : Jvm.MethodName)) ∈ lw_tbl := lw_at lw_m8 44 rfl
theorem q1951 : (Jvm.Cond.instanceMethod ({ cls := "GraftTrees$Codes", name := "isSure", desc := "(I)Z" } : Jvm.MethodName)) ∈ lw_all := lw_g (lw_at lw_m8 45 rfl) rfl
theorem q1952 : (Jvm.Cond.code ({ cls := "GraftTrees$Codes", name := "isSure", desc := "(I)Z" } : Jvm.MethodName) prog_2_method_11_code (3 : Nat) (Option.some Jvm.ClassFile.FieldType.boolean)) ∈ lw_all := lw_g (lw_at lw_m8 46 rfl) rfl
theorem q1953 : (Jvm.Cond.methodLink "GraftTrees$Codes" (163 : Nat) ({ cls := "java/lang/Math", name := "max", desc := "(II)I" } : Jvm.MethodName)) ∈ lw_all := lw_g (lw_at lw_m8 47 rfl) rfl
theorem in_X6 : ∀ w ∈ wsX60, w ∈ lw_all := lw_in wsX60 [755, 757, 759, 761, 763, 765, 767, 769, 771, 773, 775, 777, 779, 781, 783, 785, 787, 789, 791, 793] (by decide +kernel) (by decide +kernel)
/-! GraftTrees$Parser -/
def RX7 : String := "GraftTrees$Parser"
def TX7 : u_T := fun k => match k with
  | 0 => ("GraftTrees$Parser", "t", "LGraftTrees$Tokens;", true)
  | 1 => ("GraftTrees$Parser", "kind", "[I", true)
  | 2 => ("GraftTrees$Parser", "token", "[I", true)
  | 3 => ("GraftTrees$Parser", "first", "[I", true)
  | 4 => ("GraftTrees$Parser", "second", "[I", true)
  | 5 => ("GraftTrees$Parser", "third", "[I", true)
  | 6 => ("GraftTrees$Parser", "next", "[I", true)
  | 7 => ("GraftTrees$Parser", "name", "[I", true)
  | 8 => ("GraftTrees$Parser", "nameSize", "[I", true)
  | 9 => ("GraftTrees$Parser", "isBare", "[Z", true)
  | 10 => ("GraftTrees$Parser", "many", "I", false)
  | 11 => ("GraftTrees$Parser", "ownName", "[I", true)
  | 12 => ("GraftTrees$Parser", "ownSize", "[I", true)
  | 13 => ("GraftTrees$Parser", "ownFrom", "[I", true)
  | 14 => ("GraftTrees$Parser", "ownFirst", "[I", true)
  | 15 => ("GraftTrees$Parser", "ownParams", "[I", true)
  | 16 => ("GraftTrees$Parser", "ownLocals", "[I", true)
  | 17 => ("GraftTrees$Parser", "localName", "[I", true)
  | 18 => ("GraftTrees$Parser", "localSize", "[I", true)
  | 19 => ("GraftTrees$Parser", "functions", "I", false)
  | 20 => ("GraftTrees$Parser", "nodes", "I", false)
  | 21 => ("GraftTrees$Parser", "opened", "I", false)
  | _ => ("GraftTrees$Parser", "whiles", "I", false)
def tyX7 : Nat → FieldType := fun k => match k with
  | 0 => .object "GraftTrees$Tokens"
  | 1 => .array .int
  | 2 => .array .int
  | 3 => .array .int
  | 4 => .array .int
  | 5 => .array .int
  | 6 => .array .int
  | 7 => .array .int
  | 8 => .array .int
  | 9 => .array .boolean
  | 10 => .int
  | 11 => .array .int
  | 12 => .array .int
  | 13 => .array .int
  | 14 => .array .int
  | 15 => .array .int
  | 16 => .array .int
  | 17 => .array .int
  | 18 => .array .int
  | 19 => .int
  | 20 => .int
  | 21 => .int
  | _ => .int
abbrev wsX70 : List Cond := u_ws RX7 TX7 23
theorem nmX7 : ∀ a, a < 23 → ∀ b, b < 23 → a ≠ b → (TX7 a).2.1 ≠ (TX7 b).2.1 := by decide +kernel
theorem tyX7_ok : ∀ k, k < 23 → parseFieldDescriptor (TX7 k).2.2.1 = some (tyX7 k) := by decide +kernel
abbrev cX7_init : ByteArray := prog_6_method_1_code
def yX7_init : MethodName := ⟨RX7, "<init>", "()V"⟩
abbrev cX7_read : ByteArray := prog_6_method_2_code
def yX7_read : MethodName := ⟨RX7, "read", "([BII)Z"⟩
abbrev cX7_good : ByteArray := prog_6_method_3_code
def yX7_good : MethodName := ⟨RX7, "good", "()Z"⟩
abbrev cX7_function : ByteArray := prog_6_method_12_code
def yX7_function : MethodName := ⟨RX7, "function", "()V"⟩
abbrev cX7_isSame : ByteArray := prog_6_method_9_code
def yX7_isSame : MethodName := ⟨RX7, "isSame", "(IIII)Z"⟩
abbrev cX7_opens : ByteArray := prog_6_method_6_code
def yX7_opens : MethodName := ⟨RX7, "opens", "(I)V"⟩
abbrev cX7_open : ByteArray := prog_6_method_7_code
def yX7_open : MethodName := ⟨RX7, "open", "()V"⟩
abbrev cX7_param : ByteArray := prog_6_method_13_code
def yX7_param : MethodName := ⟨RX7, "param", "(I)V"⟩
abbrev cX7_local : ByteArray := prog_6_method_14_code
def yX7_local : MethodName := ⟨RX7, "local", "(III)I"⟩
abbrev cX7_node : ByteArray := prog_6_method_10_code
def yX7_node : MethodName := ⟨RX7, "node", "(I)I"⟩
abbrev cX7_blank : ByteArray := prog_6_method_11_code
def yX7_blank : MethodName := ⟨RX7, "blank", "(II)I"⟩
abbrev cX7_adds : ByteArray := prog_6_method_15_code
def yX7_adds : MethodName := ⟨RX7, "adds", "(III)V"⟩
abbrev cX7_closes : ByteArray := prog_6_method_8_code
def yX7_closes : MethodName := ⟨RX7, "closes", "(I)V"⟩
abbrev cX7_must : ByteArray := prog_6_method_5_code
def yX7_must : MethodName := ⟨RX7, "must", "(I)V"⟩
abbrev cX7_takes : ByteArray := prog_6_method_4_code
def yX7_takes : MethodName := ⟨RX7, "takes", "(I)Z"⟩
abbrev cX7_block : ByteArray := prog_6_method_17_code
def yX7_block : MethodName := ⟨RX7, "block", "()I"⟩
abbrev cX7_statement : ByteArray := prog_6_method_18_code
def yX7_statement : MethodName := ⟨RX7, "statement", "()I"⟩
abbrev cX7_condition : ByteArray := prog_6_method_19_code
def yX7_condition : MethodName := ⟨RX7, "condition", "(I)V"⟩
abbrev cX7_e : ByteArray := prog_6_method_20_code
def yX7_e : MethodName := ⟨RX7, "e", "()I"⟩
abbrev cX7_or : ByteArray := prog_6_method_23_code
def yX7_or : MethodName := ⟨RX7, "or", "()I"⟩
abbrev cX7_and : ByteArray := prog_6_method_24_code
def yX7_and : MethodName := ⟨RX7, "and", "()I"⟩
abbrev cX7_equal : ByteArray := prog_6_method_25_code
def yX7_equal : MethodName := ⟨RX7, "equal", "()I"⟩
abbrev cX7_less : ByteArray := prog_6_method_26_code
def yX7_less : MethodName := ⟨RX7, "less", "()I"⟩
abbrev cX7_sum : ByteArray := prog_6_method_27_code
def yX7_sum : MethodName := ⟨RX7, "sum", "()I"⟩
abbrev cX7_product : ByteArray := prog_6_method_28_code
def yX7_product : MethodName := ⟨RX7, "product", "()I"⟩
abbrev cX7_unary : ByteArray := prog_6_method_29_code
def yX7_unary : MethodName := ⟨RX7, "unary", "()I"⟩
abbrev cX7_atom : ByteArray := prog_6_method_30_code
def yX7_atom : MethodName := ⟨RX7, "atom", "()I"⟩
abbrev cX7_behind : ByteArray := prog_6_method_31_code
def yX7_behind : MethodName := ⟨RX7, "behind", "(I)I"⟩
abbrev cX7_call : ByteArray := prog_6_method_33_code
def yX7_call : MethodName := ⟨RX7, "call", "(I)I"⟩
abbrev cX7_begins : ByteArray := prog_6_method_32_code
def yX7_begins : MethodName := ⟨RX7, "begins", "()Z"⟩
abbrev cX7_two : ByteArray := prog_6_method_22_code
def yX7_two : MethodName := ⟨RX7, "two", "(II)I"⟩
abbrev cX7_sets : ByteArray := prog_6_method_21_code
def yX7_sets : MethodName := ⟨RX7, "sets", "(I)V"⟩
abbrev cX7_resolve : ByteArray := prog_6_method_16_code
def yX7_resolve : MethodName := ⟨RX7, "resolve", "(II)V"⟩
theorem q238 : (Jvm.Cond.initialized "GraftTrees$Parser") ∈ lw_all := lw_g (lw_at lw_m1 12 rfl) rfl
theorem q798 : (Jvm.Cond.instantiable "GraftTrees$Parser" (23 : Nat)) ∈ lw_all := lw_g (lw_at lw_m3 92 rfl) rfl
theorem q800 : (Jvm.Cond.instanceMethod ({ cls := "GraftTrees$Parser", name := "<init>", desc := "()V" } : Jvm.MethodName)) ∈ lw_all := lw_g (lw_at lw_m3 94 rfl) rfl
theorem q801 : (Jvm.Cond.code ({ cls := "GraftTrees$Parser", name := "<init>", desc := "()V" } : Jvm.MethodName) prog_6_method_1_code (1 : Nat) (Option.none : Option Jvm.ClassFile.FieldType)) ∈ lw_all := lw_g (lw_at lw_m3 95 rfl) rfl
theorem q802 : (Jvm.Cond.methodLink "GraftTrees$Parser" (3 : Nat) ({ cls := "java/lang/Object", name := "<init>", desc := "()V" } : Jvm.MethodName)) ∈ lw_all := lw_g (lw_at lw_m3 96 rfl) rfl
theorem q803 : (Jvm.Cond.classLink "GraftTrees$Parser" (9 : Nat) "GraftTrees$Tokens") ∈ lw_all := lw_g (lw_at lw_m3 97 rfl) rfl
theorem q805 : (Jvm.Cond.methodLinkNest "GraftTrees$Parser" (11 : Nat) ({ cls := "GraftTrees$Tokens", name := "<init>", desc := "()V" } : Jvm.MethodName) "GraftTrees") ∈ lw_tbl := lw_at lw_m3 99 rfl
theorem q813 : (Jvm.Cond.fieldLinkNest "GraftTrees$Parser" (89 : Nat) "GraftTrees$Tokens" "kind" "I" "GraftTrees") ∈ lw_tbl := lw_at lw_m3 107 rfl
theorem q815 : (Jvm.Cond.fieldLinkNest "GraftTrees$Parser" (104 : Nat) "GraftTrees$Tokens" "place" "I" "GraftTrees") ∈ lw_tbl := lw_at lw_m3 109 rfl
theorem q818 : (Jvm.Cond.fieldLinkNest "GraftTrees$Parser" (137 : Nat) "GraftTrees$Tokens" "size" "I" "GraftTrees") ∈ lw_tbl := lw_at lw_m3 112 rfl
theorem q821 : (Jvm.Cond.fieldLinkNest "GraftTrees$Parser" (91 : Nat) "GraftTrees$Tokens" "fault" "I" "GraftTrees") ∈ lw_tbl := lw_at lw_m3 115 rfl
theorem q846 : (Jvm.Cond.fieldLink "GraftTrees$Parser" (12 : Nat) "GraftTrees$Parser" "t" "LGraftTrees$Tokens;") ∈ lw_all := lw_g (lw_at lw_m3 140 rfl) rfl
theorem q848 : (Jvm.Cond.fieldLink "GraftTrees$Parser" (18 : Nat) "GraftTrees$Parser" "kind" "[I") ∈ lw_all := lw_g (lw_at lw_m3 142 rfl) rfl
theorem q850 : (Jvm.Cond.fieldLink "GraftTrees$Parser" (22 : Nat) "GraftTrees$Parser" "token" "[I") ∈ lw_all := lw_g (lw_at lw_m3 144 rfl) rfl
theorem q852 : (Jvm.Cond.fieldLink "GraftTrees$Parser" (25 : Nat) "GraftTrees$Parser" "first" "[I") ∈ lw_all := lw_g (lw_at lw_m3 146 rfl) rfl
theorem q854 : (Jvm.Cond.fieldLink "GraftTrees$Parser" (28 : Nat) "GraftTrees$Parser" "second" "[I") ∈ lw_all := lw_g (lw_at lw_m3 148 rfl) rfl
theorem q856 : (Jvm.Cond.fieldLink "GraftTrees$Parser" (31 : Nat) "GraftTrees$Parser" "third" "[I") ∈ lw_all := lw_g (lw_at lw_m3 150 rfl) rfl
theorem q858 : (Jvm.Cond.fieldLink "GraftTrees$Parser" (34 : Nat) "GraftTrees$Parser" "next" "[I") ∈ lw_all := lw_g (lw_at lw_m3 152 rfl) rfl
theorem q860 : (Jvm.Cond.fieldLink "GraftTrees$Parser" (37 : Nat) "GraftTrees$Parser" "name" "[I") ∈ lw_all := lw_g (lw_at lw_m3 154 rfl) rfl
theorem q862 : (Jvm.Cond.fieldLink "GraftTrees$Parser" (40 : Nat) "GraftTrees$Parser" "nameSize" "[I") ∈ lw_all := lw_g (lw_at lw_m3 156 rfl) rfl
theorem q864 : (Jvm.Cond.fieldLink "GraftTrees$Parser" (43 : Nat) "GraftTrees$Parser" "isBare" "[Z") ∈ lw_all := lw_g (lw_at lw_m3 158 rfl) rfl
theorem q865 : (Jvm.Cond.fieldLink "GraftTrees$Parser" (71 : Nat) "GraftTrees$Parser" "many" "I") ∈ lw_all := lw_g (lw_at lw_m3 159 rfl) rfl
theorem q866 : (Jvm.Cond.fieldLink "GraftTrees$Parser" (47 : Nat) "GraftTrees$Parser" "ownName" "[I") ∈ lw_all := lw_g (lw_at lw_m3 160 rfl) rfl
theorem q868 : (Jvm.Cond.fieldLink "GraftTrees$Parser" (50 : Nat) "GraftTrees$Parser" "ownSize" "[I") ∈ lw_all := lw_g (lw_at lw_m3 162 rfl) rfl
theorem q870 : (Jvm.Cond.fieldLink "GraftTrees$Parser" (53 : Nat) "GraftTrees$Parser" "ownFrom" "[I") ∈ lw_all := lw_g (lw_at lw_m3 164 rfl) rfl
theorem q872 : (Jvm.Cond.fieldLink "GraftTrees$Parser" (56 : Nat) "GraftTrees$Parser" "ownFirst" "[I") ∈ lw_all := lw_g (lw_at lw_m3 166 rfl) rfl
theorem q874 : (Jvm.Cond.fieldLink "GraftTrees$Parser" (59 : Nat) "GraftTrees$Parser" "ownParams" "[I") ∈ lw_all := lw_g (lw_at lw_m3 168 rfl) rfl
theorem q876 : (Jvm.Cond.fieldLink "GraftTrees$Parser" (62 : Nat) "GraftTrees$Parser" "ownLocals" "[I") ∈ lw_all := lw_g (lw_at lw_m3 170 rfl) rfl
theorem q878 : (Jvm.Cond.fieldLink "GraftTrees$Parser" (65 : Nat) "GraftTrees$Parser" "localName" "[I") ∈ lw_all := lw_g (lw_at lw_m3 172 rfl) rfl
theorem q879 : (Jvm.Cond.fieldLink "GraftTrees$Parser" (68 : Nat) "GraftTrees$Parser" "localSize" "[I") ∈ lw_all := lw_g (lw_at lw_m3 173 rfl) rfl
theorem q880 : (Jvm.Cond.fieldLink "GraftTrees$Parser" (75 : Nat) "GraftTrees$Parser" "functions" "I") ∈ lw_all := lw_g (lw_at lw_m3 174 rfl) rfl
theorem q883 : (Jvm.Cond.fieldLink "GraftTrees$Parser" (125 : Nat) "GraftTrees$Parser" "nodes" "I") ∈ lw_all := lw_g (lw_at lw_m3 177 rfl) rfl
theorem q884 : (Jvm.Cond.fieldLink "GraftTrees$Parser" (114 : Nat) "GraftTrees$Parser" "opened" "I") ∈ lw_all := lw_g (lw_at lw_m3 178 rfl) rfl
theorem q885 : (Jvm.Cond.fieldLink "GraftTrees$Parser" (144 : Nat) "GraftTrees$Parser" "whiles" "I") ∈ lw_all := lw_g (lw_at lw_m3 179 rfl) rfl
theorem q886 : (Jvm.Cond.laysFinal "GraftTrees$Parser" "GraftTrees$Parser" "t" "LGraftTrees$Tokens;") ∈ lw_all := lw_g (lw_at lw_m3 180 rfl) rfl
theorem q887 : (Jvm.Cond.soleField "GraftTrees$Parser" "t") ∈ lw_all := lw_g (lw_at lw_m3 181 rfl) rfl
theorem q888 : (Jvm.Cond.laysFinal "GraftTrees$Parser" "GraftTrees$Parser" "kind" "[I") ∈ lw_all := lw_g (lw_at lw_m3 182 rfl) rfl
theorem q889 : (Jvm.Cond.soleField "GraftTrees$Parser" "kind") ∈ lw_all := lw_g (lw_at lw_m3 183 rfl) rfl
theorem q890 : (Jvm.Cond.laysFinal "GraftTrees$Parser" "GraftTrees$Parser" "token" "[I") ∈ lw_all := lw_g (lw_at lw_m3 184 rfl) rfl
theorem q891 : (Jvm.Cond.soleField "GraftTrees$Parser" "token") ∈ lw_all := lw_g (lw_at lw_m3 185 rfl) rfl
theorem q892 : (Jvm.Cond.laysFinal "GraftTrees$Parser" "GraftTrees$Parser" "first" "[I") ∈ lw_all := lw_g (lw_at lw_m3 186 rfl) rfl
theorem q893 : (Jvm.Cond.soleField "GraftTrees$Parser" "first") ∈ lw_all := lw_g (lw_at lw_m3 187 rfl) rfl
theorem q894 : (Jvm.Cond.laysFinal "GraftTrees$Parser" "GraftTrees$Parser" "second" "[I") ∈ lw_all := lw_g (lw_at lw_m3 188 rfl) rfl
theorem q895 : (Jvm.Cond.soleField "GraftTrees$Parser" "second") ∈ lw_all := lw_g (lw_at lw_m3 189 rfl) rfl
theorem q896 : (Jvm.Cond.laysFinal "GraftTrees$Parser" "GraftTrees$Parser" "third" "[I") ∈ lw_all := lw_g (lw_at lw_m3 190 rfl) rfl
theorem q897 : (Jvm.Cond.soleField "GraftTrees$Parser" "third") ∈ lw_all := lw_g (lw_at lw_m3 191 rfl) rfl
theorem q898 : (Jvm.Cond.laysFinal "GraftTrees$Parser" "GraftTrees$Parser" "next" "[I") ∈ lw_all := lw_g (lw_at lw_m3 192 rfl) rfl
theorem q899 : (Jvm.Cond.soleField "GraftTrees$Parser" "next") ∈ lw_all := lw_g (lw_at lw_m3 193 rfl) rfl
theorem q900 : (Jvm.Cond.laysFinal "GraftTrees$Parser" "GraftTrees$Parser" "name" "[I") ∈ lw_all := lw_g (lw_at lw_m3 194 rfl) rfl
theorem q901 : (Jvm.Cond.soleField "GraftTrees$Parser" "name") ∈ lw_all := lw_g (lw_at lw_m3 195 rfl) rfl
theorem q902 : (Jvm.Cond.laysFinal "GraftTrees$Parser" "GraftTrees$Parser" "nameSize" "[I") ∈ lw_all := lw_g (lw_at lw_m3 196 rfl) rfl
theorem q903 : (Jvm.Cond.soleField "GraftTrees$Parser" "nameSize") ∈ lw_all := lw_g (lw_at lw_m3 197 rfl) rfl
theorem q904 : (Jvm.Cond.laysFinal "GraftTrees$Parser" "GraftTrees$Parser" "isBare" "[Z") ∈ lw_all := lw_g (lw_at lw_m3 198 rfl) rfl
theorem q905 : (Jvm.Cond.soleField "GraftTrees$Parser" "isBare") ∈ lw_all := lw_g (lw_at lw_m3 199 rfl) rfl
theorem q906 : (Jvm.Cond.lays "GraftTrees$Parser" "GraftTrees$Parser" "many" "I") ∈ lw_all := lw_g (lw_at lw_m3 200 rfl) rfl
theorem q907 : (Jvm.Cond.soleField "GraftTrees$Parser" "many") ∈ lw_all := lw_g (lw_at lw_m3 201 rfl) rfl
theorem q908 : (Jvm.Cond.laysFinal "GraftTrees$Parser" "GraftTrees$Parser" "ownName" "[I") ∈ lw_all := lw_g (lw_at lw_m3 202 rfl) rfl
theorem q909 : (Jvm.Cond.soleField "GraftTrees$Parser" "ownName") ∈ lw_all := lw_g (lw_at lw_m3 203 rfl) rfl
theorem q910 : (Jvm.Cond.laysFinal "GraftTrees$Parser" "GraftTrees$Parser" "ownSize" "[I") ∈ lw_all := lw_g (lw_at lw_m3 204 rfl) rfl
theorem q911 : (Jvm.Cond.soleField "GraftTrees$Parser" "ownSize") ∈ lw_all := lw_g (lw_at lw_m3 205 rfl) rfl
theorem q912 : (Jvm.Cond.laysFinal "GraftTrees$Parser" "GraftTrees$Parser" "ownFrom" "[I") ∈ lw_all := lw_g (lw_at lw_m3 206 rfl) rfl
theorem q913 : (Jvm.Cond.soleField "GraftTrees$Parser" "ownFrom") ∈ lw_all := lw_g (lw_at lw_m3 207 rfl) rfl
theorem q914 : (Jvm.Cond.laysFinal "GraftTrees$Parser" "GraftTrees$Parser" "ownFirst" "[I") ∈ lw_all := lw_g (lw_at lw_m3 208 rfl) rfl
theorem q915 : (Jvm.Cond.soleField "GraftTrees$Parser" "ownFirst") ∈ lw_all := lw_g (lw_at lw_m3 209 rfl) rfl
theorem q916 : (Jvm.Cond.laysFinal "GraftTrees$Parser" "GraftTrees$Parser" "ownParams" "[I") ∈ lw_all := lw_g (lw_at lw_m3 210 rfl) rfl
theorem q917 : (Jvm.Cond.soleField "GraftTrees$Parser" "ownParams") ∈ lw_all := lw_g (lw_at lw_m3 211 rfl) rfl
theorem q918 : (Jvm.Cond.laysFinal "GraftTrees$Parser" "GraftTrees$Parser" "ownLocals" "[I") ∈ lw_all := lw_g (lw_at lw_m3 212 rfl) rfl
theorem q919 : (Jvm.Cond.soleField "GraftTrees$Parser" "ownLocals") ∈ lw_all := lw_g (lw_at lw_m3 213 rfl) rfl
theorem q920 : (Jvm.Cond.laysFinal "GraftTrees$Parser" "GraftTrees$Parser" "localName" "[I") ∈ lw_all := lw_g (lw_at lw_m3 214 rfl) rfl
theorem q921 : (Jvm.Cond.soleField "GraftTrees$Parser" "localName") ∈ lw_all := lw_g (lw_at lw_m3 215 rfl) rfl
theorem q922 : (Jvm.Cond.laysFinal "GraftTrees$Parser" "GraftTrees$Parser" "localSize" "[I") ∈ lw_all := lw_g (lw_at lw_m3 216 rfl) rfl
theorem q923 : (Jvm.Cond.soleField "GraftTrees$Parser" "localSize") ∈ lw_all := lw_g (lw_at lw_m3 217 rfl) rfl
theorem q924 : (Jvm.Cond.lays "GraftTrees$Parser" "GraftTrees$Parser" "functions" "I") ∈ lw_all := lw_g (lw_at lw_m3 218 rfl) rfl
theorem q925 : (Jvm.Cond.soleField "GraftTrees$Parser" "functions") ∈ lw_all := lw_g (lw_at lw_m3 219 rfl) rfl
theorem q926 : (Jvm.Cond.lays "GraftTrees$Parser" "GraftTrees$Parser" "nodes" "I") ∈ lw_all := lw_g (lw_at lw_m3 220 rfl) rfl
theorem q927 : (Jvm.Cond.soleField "GraftTrees$Parser" "nodes") ∈ lw_all := lw_g (lw_at lw_m3 221 rfl) rfl
theorem q928 : (Jvm.Cond.lays "GraftTrees$Parser" "GraftTrees$Parser" "opened" "I") ∈ lw_all := lw_g (lw_at lw_m3 222 rfl) rfl
theorem q929 : (Jvm.Cond.soleField "GraftTrees$Parser" "opened") ∈ lw_all := lw_g (lw_at lw_m3 223 rfl) rfl
theorem q930 : (Jvm.Cond.lays "GraftTrees$Parser" "GraftTrees$Parser" "whiles" "I") ∈ lw_all := lw_g (lw_at lw_m3 224 rfl) rfl
theorem q931 : (Jvm.Cond.soleField "GraftTrees$Parser" "whiles") ∈ lw_all := lw_g (lw_at lw_m3 225 rfl) rfl
theorem q932 : (Jvm.Cond.superclass "GraftTrees$Parser" "java/lang/Object") ∈ lw_all := lw_g (lw_at lw_m3 226 rfl) rfl
theorem q1169 : (Jvm.Cond.instanceMethod ({ cls := "GraftTrees$Parser", name := "read", desc := "([BII)Z" } : Jvm.MethodName)) ∈ lw_all := lw_g (lw_at lw_m4 223 rfl) rfl
theorem q1170 : (Jvm.Cond.selects "GraftTrees$Parser" ({ cls := "GraftTrees$Parser", name := "read", desc := "([BII)Z" } : Jvm.MethodName) ({ cls := "GraftTrees$Parser", name := "read", desc := "([BII)Z" } : Jvm.MethodName)) ∈ lw_all := lw_g (lw_at lw_m4 224 rfl) rfl
theorem q1171 : (Jvm.Cond.code ({ cls := "GraftTrees$Parser", name := "read", desc := "([BII)Z" } : Jvm.MethodName) prog_6_method_2_code (5 : Nat) (Option.some Jvm.ClassFile.FieldType.boolean)) ∈ lw_all := lw_g (lw_at lw_m4 225 rfl) rfl
theorem q1172 : (Jvm.Cond.methodLink "GraftTrees$Parser" (78 : Nat) ({ cls := "GraftTrees$Tokens", name := "begin", desc := "([BII)V" } : Jvm.MethodName)) ∈ lw_all := lw_g (lw_at lw_m4 226 rfl) rfl
theorem q1274 : (Jvm.Cond.methodLink "GraftTrees$Parser" (82 : Nat) ({ cls := "GraftTrees$Parser", name := "good", desc := "()Z" } : Jvm.MethodName)) ∈ lw_all := lw_g (lw_at lw_m5 88 rfl) rfl
theorem q1275 : (Jvm.Cond.privateMethod ({ cls := "GraftTrees$Parser", name := "good", desc := "()Z" } : Jvm.MethodName)) ∈ lw_tbl := lw_at lw_m5 89 rfl
theorem q1276 : (Jvm.Cond.instanceMethod ({ cls := "GraftTrees$Parser", name := "good", desc := "()Z" } : Jvm.MethodName)) ∈ lw_all := lw_g (lw_at lw_m5 90 rfl) rfl
theorem q1277 : (Jvm.Cond.code ({ cls := "GraftTrees$Parser", name := "good", desc := "()Z" } : Jvm.MethodName) prog_6_method_3_code (1 : Nat) (Option.some Jvm.ClassFile.FieldType.boolean)) ∈ lw_all := lw_g (lw_at lw_m5 91 rfl) rfl
theorem q1278 : (Jvm.Cond.methodLink "GraftTrees$Parser" (86 : Nat) ({ cls := "GraftTrees$Parser", name := "function", desc := "()V" } : Jvm.MethodName)) ∈ lw_all := lw_g (lw_at lw_m5 92 rfl) rfl
theorem q1279 : (Jvm.Cond.privateMethod ({ cls := "GraftTrees$Parser", name := "function", desc := "()V" } : Jvm.MethodName)) ∈ lw_tbl := lw_at lw_m5 93 rfl
theorem q1280 : (Jvm.Cond.instanceMethod ({ cls := "GraftTrees$Parser", name := "function", desc := "()V" } : Jvm.MethodName)) ∈ lw_all := lw_g (lw_at lw_m5 94 rfl) rfl
theorem q1281 : (Jvm.Cond.code ({ cls := "GraftTrees$Parser", name := "function", desc := "()V" } : Jvm.MethodName) prog_6_method_12_code (4 : Nat) (Option.none : Option Jvm.ClassFile.FieldType)) ∈ lw_all := lw_g (lw_at lw_m5 95 rfl) rfl
theorem q1282 : (Jvm.Cond.stringRef "GraftTrees$Parser" (132 : Nat) "function") ∈ lw_tbl := lw_at lw_m5 96 rfl
theorem q1283 : (Jvm.Cond.methodLink "GraftTrees$Parser" (133 : Nat) ({ cls := "GraftTrees$Tokens", name := "isWord", desc := "(Ljava/lang/String;)Z" } : Jvm.MethodName)) ∈ lw_all := lw_g (lw_at lw_m5 97 rfl) rfl
theorem q1309 : (Jvm.Cond.methodLink "GraftTrees$Parser" (107 : Nat) ({ cls := "GraftTrees$Tokens", name := "fails", desc := "(II)Z" } : Jvm.MethodName)) ∈ lw_all := lw_g (lw_at lw_m5 123 rfl) rfl
theorem q1310 : (Jvm.Cond.methodLink "GraftTrees$Parser" (98 : Nat) ({ cls := "GraftTrees$Tokens", name := "read", desc := "()V" } : Jvm.MethodName)) ∈ lw_all := lw_g (lw_at lw_m5 124 rfl) rfl
theorem q1311 : (Jvm.Cond.methodLink "GraftTrees$Parser" (140 : Nat) ({ cls := "GraftTrees$Parser", name := "isSame", desc := "(IIII)Z" } : Jvm.MethodName)) ∈ lw_all := lw_g (lw_at lw_m5 125 rfl) rfl
theorem q1312 : (Jvm.Cond.privateMethod ({ cls := "GraftTrees$Parser", name := "isSame", desc := "(IIII)Z" } : Jvm.MethodName)) ∈ lw_tbl := lw_at lw_m5 126 rfl
theorem q1313 : (Jvm.Cond.instanceMethod ({ cls := "GraftTrees$Parser", name := "isSame", desc := "(IIII)Z" } : Jvm.MethodName)) ∈ lw_all := lw_g (lw_at lw_m5 127 rfl) rfl
theorem q1314 : (Jvm.Cond.code ({ cls := "GraftTrees$Parser", name := "isSame", desc := "(IIII)Z" } : Jvm.MethodName) prog_6_method_9_code (6 : Nat) (Option.some Jvm.ClassFile.FieldType.boolean)) ∈ lw_all := lw_g (lw_at lw_m5 128 rfl) rfl
theorem q1315 : (Jvm.Cond.methodLinkNest "GraftTrees$Parser" (121 : Nat) ({ cls := "GraftTrees$Tokens", name := "byteAt", desc := "(I)I" } : Jvm.MethodName) "GraftTrees") ∈ lw_tbl := lw_at lw_m5 129 rfl
theorem q1316 : (Jvm.Cond.methodLink "GraftTrees$Parser" (147 : Nat) ({ cls := "GraftTrees$Parser", name := "opens", desc := "(I)V" } : Jvm.MethodName)) ∈ lw_all := lw_g (lw_at lw_m5 130 rfl) rfl
theorem q1317 : (Jvm.Cond.privateMethod ({ cls := "GraftTrees$Parser", name := "opens", desc := "(I)V" } : Jvm.MethodName)) ∈ lw_tbl := lw_at lw_m5 131 rfl
theorem q1318 : (Jvm.Cond.instanceMethod ({ cls := "GraftTrees$Parser", name := "opens", desc := "(I)V" } : Jvm.MethodName)) ∈ lw_all := lw_g (lw_at lw_m5 132 rfl) rfl
theorem q1319 : (Jvm.Cond.code ({ cls := "GraftTrees$Parser", name := "opens", desc := "(I)V" } : Jvm.MethodName) prog_6_method_6_code (2 : Nat) (Option.none : Option Jvm.ClassFile.FieldType)) ∈ lw_all := lw_g (lw_at lw_m5 133 rfl) rfl
theorem q1320 : (Jvm.Cond.methodLink "GraftTrees$Parser" (94 : Nat) ({ cls := "GraftTrees$Tokens", name := "is", desc := "(I)Z" } : Jvm.MethodName)) ∈ lw_all := lw_g (lw_at lw_m5 134 rfl) rfl
theorem q1324 : (Jvm.Cond.methodLink "GraftTrees$Parser" (111 : Nat) ({ cls := "GraftTrees$Parser", name := "open", desc := "()V" } : Jvm.MethodName)) ∈ lw_all := lw_g (lw_at lw_m5 138 rfl) rfl
theorem q1325 : (Jvm.Cond.privateMethod ({ cls := "GraftTrees$Parser", name := "open", desc := "()V" } : Jvm.MethodName)) ∈ lw_tbl := lw_at lw_m5 139 rfl
theorem q1326 : (Jvm.Cond.instanceMethod ({ cls := "GraftTrees$Parser", name := "open", desc := "()V" } : Jvm.MethodName)) ∈ lw_all := lw_g (lw_at lw_m5 140 rfl) rfl
theorem q1327 : (Jvm.Cond.code ({ cls := "GraftTrees$Parser", name := "open", desc := "()V" } : Jvm.MethodName) prog_6_method_7_code (1 : Nat) (Option.none : Option Jvm.ClassFile.FieldType)) ∈ lw_all := lw_g (lw_at lw_m5 141 rfl) rfl
theorem q1328 : (Jvm.Cond.methodLink "GraftTrees$Parser" (150 : Nat) ({ cls := "GraftTrees$Parser", name := "param", desc := "(I)V" } : Jvm.MethodName)) ∈ lw_all := lw_g (lw_at lw_m5 142 rfl) rfl
theorem q1329 : (Jvm.Cond.privateMethod ({ cls := "GraftTrees$Parser", name := "param", desc := "(I)V" } : Jvm.MethodName)) ∈ lw_tbl := lw_at lw_m5 143 rfl
theorem q1330 : (Jvm.Cond.instanceMethod ({ cls := "GraftTrees$Parser", name := "param", desc := "(I)V" } : Jvm.MethodName)) ∈ lw_all := lw_g (lw_at lw_m5 144 rfl) rfl
theorem q1331 : (Jvm.Cond.code ({ cls := "GraftTrees$Parser", name := "param", desc := "(I)V" } : Jvm.MethodName) prog_6_method_13_code (3 : Nat) (Option.none : Option Jvm.ClassFile.FieldType)) ∈ lw_all := lw_g (lw_at lw_m5 145 rfl) rfl
theorem q1332 : (Jvm.Cond.methodLink "GraftTrees$Parser" (164 : Nat) ({ cls := "GraftTrees$Parser", name := "local", desc := "(III)I" } : Jvm.MethodName)) ∈ lw_all := lw_g (lw_at lw_m5 146 rfl) rfl
theorem q1333 : (Jvm.Cond.privateMethod ({ cls := "GraftTrees$Parser", name := "local", desc := "(III)I" } : Jvm.MethodName)) ∈ lw_tbl := lw_at lw_m5 147 rfl
theorem q1334 : (Jvm.Cond.instanceMethod ({ cls := "GraftTrees$Parser", name := "local", desc := "(III)I" } : Jvm.MethodName)) ∈ lw_all := lw_g (lw_at lw_m5 148 rfl) rfl
theorem q1335 : (Jvm.Cond.code ({ cls := "GraftTrees$Parser", name := "local", desc := "(III)I" } : Jvm.MethodName) prog_6_method_14_code (5 : Nat) (Option.some Jvm.ClassFile.FieldType.int)) ∈ lw_all := lw_g (lw_at lw_m5 149 rfl) rfl
theorem q1336 : (Jvm.Cond.methodLink "GraftTrees$Parser" (168 : Nat) ({ cls := "GraftTrees$Parser", name := "node", desc := "(I)I" } : Jvm.MethodName)) ∈ lw_all := lw_g (lw_at lw_m5 150 rfl) rfl
theorem q1337 : (Jvm.Cond.privateMethod ({ cls := "GraftTrees$Parser", name := "node", desc := "(I)I" } : Jvm.MethodName)) ∈ lw_tbl := lw_at lw_m5 151 rfl
theorem q1338 : (Jvm.Cond.instanceMethod ({ cls := "GraftTrees$Parser", name := "node", desc := "(I)I" } : Jvm.MethodName)) ∈ lw_all := lw_g (lw_at lw_m5 152 rfl) rfl
theorem q1339 : (Jvm.Cond.code ({ cls := "GraftTrees$Parser", name := "node", desc := "(I)I" } : Jvm.MethodName) prog_6_method_10_code (3 : Nat) (Option.some Jvm.ClassFile.FieldType.int)) ∈ lw_all := lw_g (lw_at lw_m5 153 rfl) rfl
theorem q1340 : (Jvm.Cond.methodLink "GraftTrees$Parser" (128 : Nat) ({ cls := "GraftTrees$Parser", name := "blank", desc := "(II)I" } : Jvm.MethodName)) ∈ lw_all := lw_g (lw_at lw_m5 154 rfl) rfl
theorem q1341 : (Jvm.Cond.privateMethod ({ cls := "GraftTrees$Parser", name := "blank", desc := "(II)I" } : Jvm.MethodName)) ∈ lw_tbl := lw_at lw_m5 155 rfl
theorem q1342 : (Jvm.Cond.instanceMethod ({ cls := "GraftTrees$Parser", name := "blank", desc := "(II)I" } : Jvm.MethodName)) ∈ lw_all := lw_g (lw_at lw_m5 156 rfl) rfl
theorem q1343 : (Jvm.Cond.code ({ cls := "GraftTrees$Parser", name := "blank", desc := "(II)I" } : Jvm.MethodName) prog_6_method_11_code (3 : Nat) (Option.some Jvm.ClassFile.FieldType.int)) ∈ lw_all := lw_g (lw_at lw_m5 157 rfl) rfl
theorem q1344 : (Jvm.Cond.methodLink "GraftTrees$Parser" (171 : Nat) ({ cls := "GraftTrees$Parser", name := "adds", desc := "(III)V" } : Jvm.MethodName)) ∈ lw_all := lw_g (lw_at lw_m5 158 rfl) rfl
theorem q1345 : (Jvm.Cond.privateMethod ({ cls := "GraftTrees$Parser", name := "adds", desc := "(III)V" } : Jvm.MethodName)) ∈ lw_tbl := lw_at lw_m5 159 rfl
theorem q1346 : (Jvm.Cond.instanceMethod ({ cls := "GraftTrees$Parser", name := "adds", desc := "(III)V" } : Jvm.MethodName)) ∈ lw_all := lw_g (lw_at lw_m5 160 rfl) rfl
theorem q1347 : (Jvm.Cond.code ({ cls := "GraftTrees$Parser", name := "adds", desc := "(III)V" } : Jvm.MethodName) prog_6_method_15_code (4 : Nat) (Option.none : Option Jvm.ClassFile.FieldType)) ∈ lw_all := lw_g (lw_at lw_m5 161 rfl) rfl
theorem q1348 : (Jvm.Cond.methodLink "GraftTrees$Parser" (153 : Nat) ({ cls := "GraftTrees$Parser", name := "closes", desc := "(I)V" } : Jvm.MethodName)) ∈ lw_all := lw_g (lw_at lw_m5 162 rfl) rfl
theorem q1349 : (Jvm.Cond.privateMethod ({ cls := "GraftTrees$Parser", name := "closes", desc := "(I)V" } : Jvm.MethodName)) ∈ lw_tbl := lw_at lw_m5 163 rfl
theorem q1350 : (Jvm.Cond.instanceMethod ({ cls := "GraftTrees$Parser", name := "closes", desc := "(I)V" } : Jvm.MethodName)) ∈ lw_all := lw_g (lw_at lw_m5 164 rfl) rfl
theorem q1351 : (Jvm.Cond.code ({ cls := "GraftTrees$Parser", name := "closes", desc := "(I)V" } : Jvm.MethodName) prog_6_method_8_code (2 : Nat) (Option.none : Option Jvm.ClassFile.FieldType)) ∈ lw_all := lw_g (lw_at lw_m5 165 rfl) rfl
theorem q1352 : (Jvm.Cond.methodLink "GraftTrees$Parser" (117 : Nat) ({ cls := "GraftTrees$Parser", name := "must", desc := "(I)V" } : Jvm.MethodName)) ∈ lw_all := lw_g (lw_at lw_m5 166 rfl) rfl
theorem q1353 : (Jvm.Cond.privateMethod ({ cls := "GraftTrees$Parser", name := "must", desc := "(I)V" } : Jvm.MethodName)) ∈ lw_tbl := lw_at lw_m5 167 rfl
theorem q1354 : (Jvm.Cond.instanceMethod ({ cls := "GraftTrees$Parser", name := "must", desc := "(I)V" } : Jvm.MethodName)) ∈ lw_all := lw_g (lw_at lw_m5 168 rfl) rfl
theorem q1355 : (Jvm.Cond.code ({ cls := "GraftTrees$Parser", name := "must", desc := "(I)V" } : Jvm.MethodName) prog_6_method_5_code (2 : Nat) (Option.none : Option Jvm.ClassFile.FieldType)) ∈ lw_all := lw_g (lw_at lw_m5 169 rfl) rfl
theorem q1356 : (Jvm.Cond.methodLink "GraftTrees$Parser" (101 : Nat) ({ cls := "GraftTrees$Parser", name := "takes", desc := "(I)Z" } : Jvm.MethodName)) ∈ lw_all := lw_g (lw_at lw_m5 170 rfl) rfl
theorem q1357 : (Jvm.Cond.privateMethod ({ cls := "GraftTrees$Parser", name := "takes", desc := "(I)Z" } : Jvm.MethodName)) ∈ lw_tbl := lw_at lw_m5 171 rfl
theorem q1358 : (Jvm.Cond.instanceMethod ({ cls := "GraftTrees$Parser", name := "takes", desc := "(I)Z" } : Jvm.MethodName)) ∈ lw_all := lw_g (lw_at lw_m5 172 rfl) rfl
theorem q1359 : (Jvm.Cond.code ({ cls := "GraftTrees$Parser", name := "takes", desc := "(I)Z" } : Jvm.MethodName) prog_6_method_4_code (2 : Nat) (Option.some Jvm.ClassFile.FieldType.boolean)) ∈ lw_all := lw_g (lw_at lw_m5 173 rfl) rfl
theorem q1360 : (Jvm.Cond.methodLink "GraftTrees$Parser" (156 : Nat) ({ cls := "GraftTrees$Parser", name := "block", desc := "()I" } : Jvm.MethodName)) ∈ lw_all := lw_g (lw_at lw_m5 174 rfl) rfl
theorem q1361 : (Jvm.Cond.privateMethod ({ cls := "GraftTrees$Parser", name := "block", desc := "()I" } : Jvm.MethodName)) ∈ lw_tbl := lw_at lw_m5 175 rfl
theorem q1362 : (Jvm.Cond.instanceMethod ({ cls := "GraftTrees$Parser", name := "block", desc := "()I" } : Jvm.MethodName)) ∈ lw_all := lw_g (lw_at lw_m5 176 rfl) rfl
theorem q1363 : (Jvm.Cond.code ({ cls := "GraftTrees$Parser", name := "block", desc := "()I" } : Jvm.MethodName) prog_6_method_17_code (4 : Nat) (Option.some Jvm.ClassFile.FieldType.int)) ∈ lw_all := lw_g (lw_at lw_m5 177 rfl) rfl
theorem q1364 : (Jvm.Cond.methodLink "GraftTrees$Parser" (175 : Nat) ({ cls := "GraftTrees$Parser", name := "statement", desc := "()I" } : Jvm.MethodName)) ∈ lw_all := lw_g (lw_at lw_m5 178 rfl) rfl
theorem q1365 : (Jvm.Cond.privateMethod ({ cls := "GraftTrees$Parser", name := "statement", desc := "()I" } : Jvm.MethodName)) ∈ lw_tbl := lw_at lw_m5 179 rfl
theorem q1366 : (Jvm.Cond.instanceMethod ({ cls := "GraftTrees$Parser", name := "statement", desc := "()I" } : Jvm.MethodName)) ∈ lw_all := lw_g (lw_at lw_m5 180 rfl) rfl
theorem q1367 : (Jvm.Cond.code ({ cls := "GraftTrees$Parser", name := "statement", desc := "()I" } : Jvm.MethodName) prog_6_method_18_code (2 : Nat) (Option.some Jvm.ClassFile.FieldType.int)) ∈ lw_all := lw_g (lw_at lw_m5 181 rfl) rfl
theorem q1368 : (Jvm.Cond.stringRef "GraftTrees$Parser" (178 : Nat) "if") ∈ lw_tbl := lw_at lw_m5 182 rfl
theorem q1369 : (Jvm.Cond.methodLink "GraftTrees$Parser" (180 : Nat) ({ cls := "GraftTrees$Parser", name := "condition", desc := "(I)V" } : Jvm.MethodName)) ∈ lw_all := lw_g (lw_at lw_m5 183 rfl) rfl
theorem q1370 : (Jvm.Cond.privateMethod ({ cls := "GraftTrees$Parser", name := "condition", desc := "(I)V" } : Jvm.MethodName)) ∈ lw_tbl := lw_at lw_m5 184 rfl
theorem q1371 : (Jvm.Cond.instanceMethod ({ cls := "GraftTrees$Parser", name := "condition", desc := "(I)V" } : Jvm.MethodName)) ∈ lw_all := lw_g (lw_at lw_m5 185 rfl) rfl
theorem q1372 : (Jvm.Cond.code ({ cls := "GraftTrees$Parser", name := "condition", desc := "(I)V" } : Jvm.MethodName) prog_6_method_19_code (2 : Nat) (Option.none : Option Jvm.ClassFile.FieldType)) ∈ lw_all := lw_g (lw_at lw_m5 186 rfl) rfl
theorem q1373 : (Jvm.Cond.methodLink "GraftTrees$Parser" (189 : Nat) ({ cls := "GraftTrees$Parser", name := "e", desc := "()I" } : Jvm.MethodName)) ∈ lw_all := lw_g (lw_at lw_m5 187 rfl) rfl
theorem q1374 : (Jvm.Cond.privateMethod ({ cls := "GraftTrees$Parser", name := "e", desc := "()I" } : Jvm.MethodName)) ∈ lw_tbl := lw_at lw_m5 188 rfl
theorem q1375 : (Jvm.Cond.instanceMethod ({ cls := "GraftTrees$Parser", name := "e", desc := "()I" } : Jvm.MethodName)) ∈ lw_all := lw_g (lw_at lw_m5 189 rfl) rfl
theorem q1376 : (Jvm.Cond.code ({ cls := "GraftTrees$Parser", name := "e", desc := "()I" } : Jvm.MethodName) prog_6_method_20_code (2 : Nat) (Option.some Jvm.ClassFile.FieldType.int)) ∈ lw_all := lw_g (lw_at lw_m5 190 rfl) rfl
theorem q1377 : (Jvm.Cond.methodLink "GraftTrees$Parser" (196 : Nat) ({ cls := "GraftTrees$Parser", name := "or", desc := "()I" } : Jvm.MethodName)) ∈ lw_all := lw_g (lw_at lw_m5 191 rfl) rfl
theorem q1378 : (Jvm.Cond.privateMethod ({ cls := "GraftTrees$Parser", name := "or", desc := "()I" } : Jvm.MethodName)) ∈ lw_tbl := lw_at lw_m5 192 rfl
theorem q1379 : (Jvm.Cond.instanceMethod ({ cls := "GraftTrees$Parser", name := "or", desc := "()I" } : Jvm.MethodName)) ∈ lw_all := lw_g (lw_at lw_m5 193 rfl) rfl
theorem q1380 : (Jvm.Cond.code ({ cls := "GraftTrees$Parser", name := "or", desc := "()I" } : Jvm.MethodName) prog_6_method_23_code (2 : Nat) (Option.some Jvm.ClassFile.FieldType.int)) ∈ lw_all := lw_g (lw_at lw_m5 194 rfl) rfl
theorem q1381 : (Jvm.Cond.methodLink "GraftTrees$Parser" (202 : Nat) ({ cls := "GraftTrees$Parser", name := "and", desc := "()I" } : Jvm.MethodName)) ∈ lw_all := lw_g (lw_at lw_m5 195 rfl) rfl
theorem q1382 : (Jvm.Cond.privateMethod ({ cls := "GraftTrees$Parser", name := "and", desc := "()I" } : Jvm.MethodName)) ∈ lw_tbl := lw_at lw_m5 196 rfl
theorem q1383 : (Jvm.Cond.instanceMethod ({ cls := "GraftTrees$Parser", name := "and", desc := "()I" } : Jvm.MethodName)) ∈ lw_all := lw_g (lw_at lw_m5 197 rfl) rfl
theorem q1384 : (Jvm.Cond.code ({ cls := "GraftTrees$Parser", name := "and", desc := "()I" } : Jvm.MethodName) prog_6_method_24_code (2 : Nat) (Option.some Jvm.ClassFile.FieldType.int)) ∈ lw_all := lw_g (lw_at lw_m5 198 rfl) rfl
theorem q1385 : (Jvm.Cond.methodLink "GraftTrees$Parser" (208 : Nat) ({ cls := "GraftTrees$Parser", name := "equal", desc := "()I" } : Jvm.MethodName)) ∈ lw_all := lw_g (lw_at lw_m5 199 rfl) rfl
theorem q1386 : (Jvm.Cond.privateMethod ({ cls := "GraftTrees$Parser", name := "equal", desc := "()I" } : Jvm.MethodName)) ∈ lw_tbl := lw_at lw_m5 200 rfl
theorem q1387 : (Jvm.Cond.instanceMethod ({ cls := "GraftTrees$Parser", name := "equal", desc := "()I" } : Jvm.MethodName)) ∈ lw_all := lw_g (lw_at lw_m5 201 rfl) rfl
theorem q1388 : (Jvm.Cond.code ({ cls := "GraftTrees$Parser", name := "equal", desc := "()I" } : Jvm.MethodName) prog_6_method_25_code (3 : Nat) (Option.some Jvm.ClassFile.FieldType.int)) ∈ lw_all := lw_g (lw_at lw_m5 202 rfl) rfl
theorem q1389 : (Jvm.Cond.methodLink "GraftTrees$Parser" (211 : Nat) ({ cls := "GraftTrees$Parser", name := "less", desc := "()I" } : Jvm.MethodName)) ∈ lw_all := lw_g (lw_at lw_m5 203 rfl) rfl
theorem q1390 : (Jvm.Cond.privateMethod ({ cls := "GraftTrees$Parser", name := "less", desc := "()I" } : Jvm.MethodName)) ∈ lw_tbl := lw_at lw_m5 204 rfl
theorem q1391 : (Jvm.Cond.instanceMethod ({ cls := "GraftTrees$Parser", name := "less", desc := "()I" } : Jvm.MethodName)) ∈ lw_all := lw_g (lw_at lw_m5 205 rfl) rfl
theorem q1392 : (Jvm.Cond.code ({ cls := "GraftTrees$Parser", name := "less", desc := "()I" } : Jvm.MethodName) prog_6_method_26_code (3 : Nat) (Option.some Jvm.ClassFile.FieldType.int)) ∈ lw_all := lw_g (lw_at lw_m5 206 rfl) rfl
theorem q1393 : (Jvm.Cond.methodLink "GraftTrees$Parser" (214 : Nat) ({ cls := "GraftTrees$Parser", name := "sum", desc := "()I" } : Jvm.MethodName)) ∈ lw_all := lw_g (lw_at lw_m5 207 rfl) rfl
theorem q1394 : (Jvm.Cond.privateMethod ({ cls := "GraftTrees$Parser", name := "sum", desc := "()I" } : Jvm.MethodName)) ∈ lw_tbl := lw_at lw_m5 208 rfl
theorem q1395 : (Jvm.Cond.instanceMethod ({ cls := "GraftTrees$Parser", name := "sum", desc := "()I" } : Jvm.MethodName)) ∈ lw_all := lw_g (lw_at lw_m5 209 rfl) rfl
theorem q1396 : (Jvm.Cond.code ({ cls := "GraftTrees$Parser", name := "sum", desc := "()I" } : Jvm.MethodName) prog_6_method_27_code (2 : Nat) (Option.some Jvm.ClassFile.FieldType.int)) ∈ lw_all := lw_g (lw_at lw_m5 210 rfl) rfl
theorem q1397 : (Jvm.Cond.methodLink "GraftTrees$Parser" (217 : Nat) ({ cls := "GraftTrees$Parser", name := "product", desc := "()I" } : Jvm.MethodName)) ∈ lw_all := lw_g (lw_at lw_m5 211 rfl) rfl
theorem q1398 : (Jvm.Cond.privateMethod ({ cls := "GraftTrees$Parser", name := "product", desc := "()I" } : Jvm.MethodName)) ∈ lw_tbl := lw_at lw_m5 212 rfl
theorem q1399 : (Jvm.Cond.instanceMethod ({ cls := "GraftTrees$Parser", name := "product", desc := "()I" } : Jvm.MethodName)) ∈ lw_all := lw_g (lw_at lw_m5 213 rfl) rfl
theorem q1400 : (Jvm.Cond.code ({ cls := "GraftTrees$Parser", name := "product", desc := "()I" } : Jvm.MethodName) prog_6_method_28_code (2 : Nat) (Option.some Jvm.ClassFile.FieldType.int)) ∈ lw_all := lw_g (lw_at lw_m5 214 rfl) rfl
theorem q1401 : (Jvm.Cond.methodLink "GraftTrees$Parser" (220 : Nat) ({ cls := "GraftTrees$Parser", name := "unary", desc := "()I" } : Jvm.MethodName)) ∈ lw_all := lw_g (lw_at lw_m5 215 rfl) rfl
theorem q1402 : (Jvm.Cond.privateMethod ({ cls := "GraftTrees$Parser", name := "unary", desc := "()I" } : Jvm.MethodName)) ∈ lw_tbl := lw_at lw_m5 216 rfl
theorem q1403 : (Jvm.Cond.instanceMethod ({ cls := "GraftTrees$Parser", name := "unary", desc := "()I" } : Jvm.MethodName)) ∈ lw_all := lw_g (lw_at lw_m5 217 rfl) rfl
theorem q1404 : (Jvm.Cond.code ({ cls := "GraftTrees$Parser", name := "unary", desc := "()I" } : Jvm.MethodName) prog_6_method_29_code (2 : Nat) (Option.some Jvm.ClassFile.FieldType.int)) ∈ lw_all := lw_g (lw_at lw_m5 218 rfl) rfl
theorem q1405 : (Jvm.Cond.methodLink "GraftTrees$Parser" (223 : Nat) ({ cls := "GraftTrees$Parser", name := "atom", desc := "()I" } : Jvm.MethodName)) ∈ lw_all := lw_g (lw_at lw_m5 219 rfl) rfl
theorem q1406 : (Jvm.Cond.privateMethod ({ cls := "GraftTrees$Parser", name := "atom", desc := "()I" } : Jvm.MethodName)) ∈ lw_tbl := lw_at lw_m5 220 rfl
theorem q1407 : (Jvm.Cond.instanceMethod ({ cls := "GraftTrees$Parser", name := "atom", desc := "()I" } : Jvm.MethodName)) ∈ lw_all := lw_g (lw_at lw_m5 221 rfl) rfl
theorem q1408 : (Jvm.Cond.code ({ cls := "GraftTrees$Parser", name := "atom", desc := "()I" } : Jvm.MethodName) prog_6_method_30_code (2 : Nat) (Option.some Jvm.ClassFile.FieldType.int)) ∈ lw_all := lw_g (lw_at lw_m5 222 rfl) rfl
theorem q1409 : (Jvm.Cond.stringRef "GraftTrees$Parser" (229 : Nat) "true") ∈ lw_tbl := lw_at lw_m5 223 rfl
theorem q1410 : (Jvm.Cond.stringRef "GraftTrees$Parser" (231 : Nat) "false") ∈ lw_tbl := lw_at lw_m5 224 rfl
theorem q1411 : (Jvm.Cond.stringRef "GraftTrees$Parser" (233 : Nat) "null") ∈ lw_tbl := lw_at lw_m5 225 rfl
theorem q1412 : (Jvm.Cond.methodLink "GraftTrees$Parser" (226 : Nat) ({ cls := "GraftTrees$Parser", name := "behind", desc := "(I)I" } : Jvm.MethodName)) ∈ lw_all := lw_g (lw_at lw_m5 226 rfl) rfl
theorem q1413 : (Jvm.Cond.privateMethod ({ cls := "GraftTrees$Parser", name := "behind", desc := "(I)I" } : Jvm.MethodName)) ∈ lw_tbl := lw_at lw_m5 227 rfl
theorem q1414 : (Jvm.Cond.instanceMethod ({ cls := "GraftTrees$Parser", name := "behind", desc := "(I)I" } : Jvm.MethodName)) ∈ lw_all := lw_g (lw_at lw_m5 228 rfl) rfl
theorem q1415 : (Jvm.Cond.code ({ cls := "GraftTrees$Parser", name := "behind", desc := "(I)I" } : Jvm.MethodName) prog_6_method_31_code (4 : Nat) (Option.some Jvm.ClassFile.FieldType.int)) ∈ lw_all := lw_g (lw_at lw_m5 229 rfl) rfl
theorem q1416 : (Jvm.Cond.methodLink "GraftTrees$Parser" (235 : Nat) ({ cls := "GraftTrees$Parser", name := "call", desc := "(I)I" } : Jvm.MethodName)) ∈ lw_all := lw_g (lw_at lw_m5 230 rfl) rfl
theorem q1417 : (Jvm.Cond.privateMethod ({ cls := "GraftTrees$Parser", name := "call", desc := "(I)I" } : Jvm.MethodName)) ∈ lw_tbl := lw_at lw_m5 231 rfl
theorem q1418 : (Jvm.Cond.instanceMethod ({ cls := "GraftTrees$Parser", name := "call", desc := "(I)I" } : Jvm.MethodName)) ∈ lw_all := lw_g (lw_at lw_m5 232 rfl) rfl
theorem q1419 : (Jvm.Cond.code ({ cls := "GraftTrees$Parser", name := "call", desc := "(I)I" } : Jvm.MethodName) prog_6_method_33_code (7 : Nat) (Option.some Jvm.ClassFile.FieldType.int)) ∈ lw_all := lw_g (lw_at lw_m5 233 rfl) rfl
theorem q1420 : (Jvm.Cond.methodLink "GraftTrees$Parser" (238 : Nat) ({ cls := "GraftTrees$Parser", name := "begins", desc := "()Z" } : Jvm.MethodName)) ∈ lw_all := lw_g (lw_at lw_m5 234 rfl) rfl
theorem q1421 : (Jvm.Cond.privateMethod ({ cls := "GraftTrees$Parser", name := "begins", desc := "()Z" } : Jvm.MethodName)) ∈ lw_tbl := lw_at lw_m5 235 rfl
theorem q1422 : (Jvm.Cond.instanceMethod ({ cls := "GraftTrees$Parser", name := "begins", desc := "()Z" } : Jvm.MethodName)) ∈ lw_all := lw_g (lw_at lw_m5 236 rfl) rfl
theorem q1423 : (Jvm.Cond.code ({ cls := "GraftTrees$Parser", name := "begins", desc := "()Z" } : Jvm.MethodName) prog_6_method_32_code (1 : Nat) (Option.some Jvm.ClassFile.FieldType.boolean)) ∈ lw_all := lw_g (lw_at lw_m5 237 rfl) rfl
theorem q1424 : (Jvm.Cond.methodLink "GraftTrees$Parser" (205 : Nat) ({ cls := "GraftTrees$Parser", name := "two", desc := "(II)I" } : Jvm.MethodName)) ∈ lw_all := lw_g (lw_at lw_m5 238 rfl) rfl
theorem q1425 : (Jvm.Cond.privateMethod ({ cls := "GraftTrees$Parser", name := "two", desc := "(II)I" } : Jvm.MethodName)) ∈ lw_tbl := lw_at lw_m5 239 rfl
theorem q1426 : (Jvm.Cond.instanceMethod ({ cls := "GraftTrees$Parser", name := "two", desc := "(II)I" } : Jvm.MethodName)) ∈ lw_all := lw_g (lw_at lw_m6 0 rfl) rfl
theorem q1427 : (Jvm.Cond.code ({ cls := "GraftTrees$Parser", name := "two", desc := "(II)I" } : Jvm.MethodName) prog_6_method_22_code (4 : Nat) (Option.some Jvm.ClassFile.FieldType.int)) ∈ lw_all := lw_g (lw_at lw_m6 1 rfl) rfl
theorem q1428 : (Jvm.Cond.methodLink "GraftTrees$Parser" (199 : Nat) ({ cls := "GraftTrees$Parser", name := "sets", desc := "(I)V" } : Jvm.MethodName)) ∈ lw_all := lw_g (lw_at lw_m6 2 rfl) rfl
theorem q1429 : (Jvm.Cond.privateMethod ({ cls := "GraftTrees$Parser", name := "sets", desc := "(I)V" } : Jvm.MethodName)) ∈ lw_tbl := lw_at lw_m6 3 rfl
theorem q1430 : (Jvm.Cond.instanceMethod ({ cls := "GraftTrees$Parser", name := "sets", desc := "(I)V" } : Jvm.MethodName)) ∈ lw_all := lw_g (lw_at lw_m6 4 rfl) rfl
theorem q1431 : (Jvm.Cond.code ({ cls := "GraftTrees$Parser", name := "sets", desc := "(I)V" } : Jvm.MethodName) prog_6_method_21_code (4 : Nat) (Option.none : Option Jvm.ClassFile.FieldType)) ∈ lw_all := lw_g (lw_at lw_m6 5 rfl) rfl
theorem q1432 : (Jvm.Cond.stringRef "GraftTrees$Parser" (183 : Nat) "else") ∈ lw_tbl := lw_at lw_m6 6 rfl
theorem q1433 : (Jvm.Cond.stringRef "GraftTrees$Parser" (185 : Nat) "while") ∈ lw_tbl := lw_at lw_m6 7 rfl
theorem q1434 : (Jvm.Cond.stringRef "GraftTrees$Parser" (187 : Nat) "return") ∈ lw_tbl := lw_at lw_m6 8 rfl
theorem q1435 : (Jvm.Cond.stringRef "GraftTrees$Parser" (192 : Nat) "break") ∈ lw_tbl := lw_at lw_m6 9 rfl
theorem q1436 : (Jvm.Cond.stringRef "GraftTrees$Parser" (194 : Nat) "continue") ∈ lw_tbl := lw_at lw_m6 10 rfl
theorem q1437 : (Jvm.Cond.methodLink "GraftTrees$Parser" (160 : Nat) ({ cls := "GraftTrees$Parser", name := "resolve", desc := "(II)V" } : Jvm.MethodName)) ∈ lw_all := lw_g (lw_at lw_m6 11 rfl) rfl
theorem q1438 : (Jvm.Cond.privateMethod ({ cls := "GraftTrees$Parser", name := "resolve", desc := "(II)V" } : Jvm.MethodName)) ∈ lw_tbl := lw_at lw_m6 12 rfl
theorem q1439 : (Jvm.Cond.instanceMethod ({ cls := "GraftTrees$Parser", name := "resolve", desc := "(II)V" } : Jvm.MethodName)) ∈ lw_all := lw_g (lw_at lw_m6 13 rfl) rfl
theorem q1440 : (Jvm.Cond.code ({ cls := "GraftTrees$Parser", name := "resolve", desc := "(II)V" } : Jvm.MethodName) prog_6_method_16_code (4 : Nat) (Option.none : Option Jvm.ClassFile.FieldType)) ∈ lw_all := lw_g (lw_at lw_m6 14 rfl) rfl
theorem in_X7 : ∀ w ∈ wsX70, w ∈ lw_all := lw_in wsX70 [886, 888, 890, 892, 894, 896, 898, 900, 902, 904, 906, 908, 910, 912, 914, 916, 918, 920, 922, 924, 926, 928, 930] (by decide +kernel) (by decide +kernel)
/-! GraftTrees$Tokens -/
def RX8 : String := "GraftTrees$Tokens"
def TX8 : u_T := fun k => match k with
  | 0 => ("GraftTrees$Tokens", "row", "[B", false)
  | 1 => ("GraftTrees$Tokens", "start", "I", false)
  | 2 => ("GraftTrees$Tokens", "length", "I", false)
  | 3 => ("GraftTrees$Tokens", "at", "I", false)
  | 4 => ("GraftTrees$Tokens", "kind", "I", false)
  | 5 => ("GraftTrees$Tokens", "place", "I", false)
  | 6 => ("GraftTrees$Tokens", "size", "I", false)
  | 7 => ("GraftTrees$Tokens", "sign", "I", false)
  | 8 => ("GraftTrees$Tokens", "fault", "I", false)
  | _ => ("GraftTrees$Tokens", "faultPlace", "I", false)
def tyX8 : Nat → FieldType := fun k => match k with
  | 0 => .array .byte
  | 1 => .int
  | 2 => .int
  | 3 => .int
  | 4 => .int
  | 5 => .int
  | 6 => .int
  | 7 => .int
  | 8 => .int
  | _ => .int
abbrev wsX80 : List Cond := u_ws RX8 TX8 10
theorem nmX8 : ∀ a, a < 10 → ∀ b, b < 10 → a ≠ b → (TX8 a).2.1 ≠ (TX8 b).2.1 := by decide +kernel
theorem tyX8_ok : ∀ k, k < 10 → parseFieldDescriptor (TX8 k).2.2.1 = some (tyX8 k) := by decide +kernel
abbrev cX8_init : ByteArray := prog_8_method_1_code
def yX8_init : MethodName := ⟨RX8, "<init>", "()V"⟩
abbrev cX8_begin : ByteArray := prog_8_method_2_code
def yX8_begin : MethodName := ⟨RX8, "begin", "([BII)V"⟩
abbrev cX8_read : ByteArray := prog_8_method_8_code
def yX8_read : MethodName := ⟨RX8, "read", "()V"⟩
abbrev cX8_skip : ByteArray := prog_8_method_7_code
def yX8_skip : MethodName := ⟨RX8, "skip", "()V"⟩
abbrev cX8_byteAt : ByteArray := prog_8_method_3_code
def yX8_byteAt : MethodName := ⟨RX8, "byteAt", "(I)I"⟩
abbrev cX8_isLetter : ByteArray := prog_8_method_4_code
def yX8_isLetter : MethodName := ⟨RX8, "isLetter", "(I)Z"⟩
abbrev cX8_isDigit : ByteArray := prog_8_method_5_code
def yX8_isDigit : MethodName := ⟨RX8, "isDigit", "(I)Z"⟩
abbrev cX8_isWord : ByteArray := prog_8_method_11_code
def yX8_isWord : MethodName := ⟨RX8, "isWord", "()Z"⟩
abbrev cX8_word : ByteArray := prog_8_method_12_code
def yX8_word : MethodName := ⟨RX8, "word", "()I"⟩
abbrev cX8_fails : ByteArray := prog_8_method_6_code
def yX8_fails : MethodName := ⟨RX8, "fails", "(II)Z"⟩
abbrev cX8_string : ByteArray := prog_8_method_9_code
def yX8_string : MethodName := ⟨RX8, "string", "()V"⟩
abbrev cX8_signs : ByteArray := prog_8_method_10_code
def yX8_signs : MethodName := ⟨RX8, "signs", "(I)V"⟩
abbrev cX8_isWord_2 : ByteArray := prog_8_method_14_code
def yX8_isWord_2 : MethodName := ⟨RX8, "isWord", "(Ljava/lang/String;)Z"⟩
abbrev cX8_is : ByteArray := prog_8_method_13_code
def yX8_is : MethodName := ⟨RX8, "is", "(I)Z"⟩
theorem q239 : (Jvm.Cond.initialized "GraftTrees$Tokens") ∈ lw_all := lw_g (lw_at lw_m1 13 rfl) rfl
theorem q804 : (Jvm.Cond.instantiable "GraftTrees$Tokens" (10 : Nat)) ∈ lw_all := lw_g (lw_at lw_m3 98 rfl) rfl
theorem q806 : (Jvm.Cond.instanceMethod ({ cls := "GraftTrees$Tokens", name := "<init>", desc := "()V" } : Jvm.MethodName)) ∈ lw_all := lw_g (lw_at lw_m3 100 rfl) rfl
theorem q807 : (Jvm.Cond.code ({ cls := "GraftTrees$Tokens", name := "<init>", desc := "()V" } : Jvm.MethodName) prog_8_method_1_code (1 : Nat) (Option.none : Option Jvm.ClassFile.FieldType)) ∈ lw_all := lw_g (lw_at lw_m3 101 rfl) rfl
theorem q808 : (Jvm.Cond.methodLink "GraftTrees$Tokens" (3 : Nat) ({ cls := "java/lang/Object", name := "<init>", desc := "()V" } : Jvm.MethodName)) ∈ lw_all := lw_g (lw_at lw_m3 102 rfl) rfl
theorem q809 : (Jvm.Cond.fieldLink "GraftTrees$Tokens" (9 : Nat) "GraftTrees$Tokens" "row" "[B") ∈ lw_all := lw_g (lw_at lw_m3 103 rfl) rfl
theorem q810 : (Jvm.Cond.fieldLink "GraftTrees$Tokens" (15 : Nat) "GraftTrees$Tokens" "start" "I") ∈ lw_all := lw_g (lw_at lw_m3 104 rfl) rfl
theorem q811 : (Jvm.Cond.fieldLink "GraftTrees$Tokens" (19 : Nat) "GraftTrees$Tokens" "length" "I") ∈ lw_all := lw_g (lw_at lw_m3 105 rfl) rfl
theorem q812 : (Jvm.Cond.fieldLink "GraftTrees$Tokens" (22 : Nat) "GraftTrees$Tokens" "at" "I") ∈ lw_all := lw_g (lw_at lw_m3 106 rfl) rfl
theorem q814 : (Jvm.Cond.fieldLink "GraftTrees$Tokens" (50 : Nat) "GraftTrees$Tokens" "kind" "I") ∈ lw_all := lw_g (lw_at lw_m3 108 rfl) rfl
theorem q816 : (Jvm.Cond.fieldLink "GraftTrees$Tokens" (41 : Nat) "GraftTrees$Tokens" "place" "I") ∈ lw_all := lw_g (lw_at lw_m3 110 rfl) rfl
theorem q817 : (Jvm.Cond.fieldLink "GraftTrees$Tokens" (44 : Nat) "GraftTrees$Tokens" "size" "I") ∈ lw_all := lw_g (lw_at lw_m3 111 rfl) rfl
theorem q819 : (Jvm.Cond.fieldLink "GraftTrees$Tokens" (47 : Nat) "GraftTrees$Tokens" "sign" "I") ∈ lw_all := lw_g (lw_at lw_m3 113 rfl) rfl
theorem q820 : (Jvm.Cond.fieldLink "GraftTrees$Tokens" (25 : Nat) "GraftTrees$Tokens" "fault" "I") ∈ lw_all := lw_g (lw_at lw_m3 114 rfl) rfl
theorem q824 : (Jvm.Cond.fieldLink "GraftTrees$Tokens" (31 : Nat) "GraftTrees$Tokens" "faultPlace" "I") ∈ lw_all := lw_g (lw_at lw_m3 118 rfl) rfl
theorem q825 : (Jvm.Cond.lays "GraftTrees$Tokens" "GraftTrees$Tokens" "row" "[B") ∈ lw_all := lw_g (lw_at lw_m3 119 rfl) rfl
theorem q826 : (Jvm.Cond.soleField "GraftTrees$Tokens" "row") ∈ lw_all := lw_g (lw_at lw_m3 120 rfl) rfl
theorem q827 : (Jvm.Cond.lays "GraftTrees$Tokens" "GraftTrees$Tokens" "start" "I") ∈ lw_all := lw_g (lw_at lw_m3 121 rfl) rfl
theorem q828 : (Jvm.Cond.soleField "GraftTrees$Tokens" "start") ∈ lw_all := lw_g (lw_at lw_m3 122 rfl) rfl
theorem q829 : (Jvm.Cond.lays "GraftTrees$Tokens" "GraftTrees$Tokens" "length" "I") ∈ lw_all := lw_g (lw_at lw_m3 123 rfl) rfl
theorem q830 : (Jvm.Cond.soleField "GraftTrees$Tokens" "length") ∈ lw_all := lw_g (lw_at lw_m3 124 rfl) rfl
theorem q831 : (Jvm.Cond.lays "GraftTrees$Tokens" "GraftTrees$Tokens" "at" "I") ∈ lw_all := lw_g (lw_at lw_m3 125 rfl) rfl
theorem q832 : (Jvm.Cond.soleField "GraftTrees$Tokens" "at") ∈ lw_all := lw_g (lw_at lw_m3 126 rfl) rfl
theorem q833 : (Jvm.Cond.lays "GraftTrees$Tokens" "GraftTrees$Tokens" "kind" "I") ∈ lw_all := lw_g (lw_at lw_m3 127 rfl) rfl
theorem q834 : (Jvm.Cond.soleField "GraftTrees$Tokens" "kind") ∈ lw_all := lw_g (lw_at lw_m3 128 rfl) rfl
theorem q835 : (Jvm.Cond.lays "GraftTrees$Tokens" "GraftTrees$Tokens" "place" "I") ∈ lw_all := lw_g (lw_at lw_m3 129 rfl) rfl
theorem q836 : (Jvm.Cond.soleField "GraftTrees$Tokens" "place") ∈ lw_all := lw_g (lw_at lw_m3 130 rfl) rfl
theorem q837 : (Jvm.Cond.lays "GraftTrees$Tokens" "GraftTrees$Tokens" "size" "I") ∈ lw_all := lw_g (lw_at lw_m3 131 rfl) rfl
theorem q838 : (Jvm.Cond.soleField "GraftTrees$Tokens" "size") ∈ lw_all := lw_g (lw_at lw_m3 132 rfl) rfl
theorem q839 : (Jvm.Cond.lays "GraftTrees$Tokens" "GraftTrees$Tokens" "sign" "I") ∈ lw_all := lw_g (lw_at lw_m3 133 rfl) rfl
theorem q840 : (Jvm.Cond.soleField "GraftTrees$Tokens" "sign") ∈ lw_all := lw_g (lw_at lw_m3 134 rfl) rfl
theorem q841 : (Jvm.Cond.lays "GraftTrees$Tokens" "GraftTrees$Tokens" "fault" "I") ∈ lw_all := lw_g (lw_at lw_m3 135 rfl) rfl
theorem q842 : (Jvm.Cond.soleField "GraftTrees$Tokens" "fault") ∈ lw_all := lw_g (lw_at lw_m3 136 rfl) rfl
theorem q843 : (Jvm.Cond.lays "GraftTrees$Tokens" "GraftTrees$Tokens" "faultPlace" "I") ∈ lw_all := lw_g (lw_at lw_m3 137 rfl) rfl
theorem q844 : (Jvm.Cond.soleField "GraftTrees$Tokens" "faultPlace") ∈ lw_all := lw_g (lw_at lw_m3 138 rfl) rfl
theorem q845 : (Jvm.Cond.superclass "GraftTrees$Tokens" "java/lang/Object") ∈ lw_all := lw_g (lw_at lw_m3 139 rfl) rfl
theorem q1173 : (Jvm.Cond.instanceMethod ({ cls := "GraftTrees$Tokens", name := "begin", desc := "([BII)V" } : Jvm.MethodName)) ∈ lw_all := lw_g (lw_at lw_m4 227 rfl) rfl
theorem q1174 : (Jvm.Cond.selects "GraftTrees$Tokens" ({ cls := "GraftTrees$Tokens", name := "begin", desc := "([BII)V" } : Jvm.MethodName) ({ cls := "GraftTrees$Tokens", name := "begin", desc := "([BII)V" } : Jvm.MethodName)) ∈ lw_all := lw_g (lw_at lw_m4 228 rfl) rfl
theorem q1175 : (Jvm.Cond.code ({ cls := "GraftTrees$Tokens", name := "begin", desc := "([BII)V" } : Jvm.MethodName) prog_8_method_2_code (4 : Nat) (Option.none : Option Jvm.ClassFile.FieldType)) ∈ lw_all := lw_g (lw_at lw_m4 229 rfl) rfl
theorem q1176 : (Jvm.Cond.methodLink "GraftTrees$Tokens" (28 : Nat) ({ cls := "GraftTrees$Tokens", name := "read", desc := "()V" } : Jvm.MethodName)) ∈ lw_all := lw_g (lw_at lw_m4 230 rfl) rfl
theorem q1177 : (Jvm.Cond.instanceMethod ({ cls := "GraftTrees$Tokens", name := "read", desc := "()V" } : Jvm.MethodName)) ∈ lw_all := lw_g (lw_at lw_m4 231 rfl) rfl
theorem q1178 : (Jvm.Cond.selects "GraftTrees$Tokens" ({ cls := "GraftTrees$Tokens", name := "read", desc := "()V" } : Jvm.MethodName) ({ cls := "GraftTrees$Tokens", name := "read", desc := "()V" } : Jvm.MethodName)) ∈ lw_all := lw_g (lw_at lw_m4 232 rfl) rfl
theorem q1179 : (Jvm.Cond.code ({ cls := "GraftTrees$Tokens", name := "read", desc := "()V" } : Jvm.MethodName) prog_8_method_8_code (2 : Nat) (Option.none : Option Jvm.ClassFile.FieldType)) ∈ lw_all := lw_g (lw_at lw_m4 233 rfl) rfl
theorem q1180 : (Jvm.Cond.methodLink "GraftTrees$Tokens" (38 : Nat) ({ cls := "GraftTrees$Tokens", name := "skip", desc := "()V" } : Jvm.MethodName)) ∈ lw_all := lw_g (lw_at lw_m4 234 rfl) rfl
theorem q1181 : (Jvm.Cond.privateMethod ({ cls := "GraftTrees$Tokens", name := "skip", desc := "()V" } : Jvm.MethodName)) ∈ lw_tbl := lw_at lw_m4 235 rfl
theorem q1182 : (Jvm.Cond.instanceMethod ({ cls := "GraftTrees$Tokens", name := "skip", desc := "()V" } : Jvm.MethodName)) ∈ lw_all := lw_g (lw_at lw_m4 236 rfl) rfl
theorem q1183 : (Jvm.Cond.code ({ cls := "GraftTrees$Tokens", name := "skip", desc := "()V" } : Jvm.MethodName) prog_8_method_7_code (3 : Nat) (Option.none : Option Jvm.ClassFile.FieldType)) ∈ lw_all := lw_g (lw_at lw_m4 237 rfl) rfl
theorem q1184 : (Jvm.Cond.methodLink "GraftTrees$Tokens" (34 : Nat) ({ cls := "GraftTrees$Tokens", name := "byteAt", desc := "(I)I" } : Jvm.MethodName)) ∈ lw_all := lw_g (lw_at lw_m4 238 rfl) rfl
theorem q1185 : (Jvm.Cond.privateMethod ({ cls := "GraftTrees$Tokens", name := "byteAt", desc := "(I)I" } : Jvm.MethodName)) ∈ lw_tbl := lw_at lw_m4 239 rfl
theorem q1186 : (Jvm.Cond.instanceMethod ({ cls := "GraftTrees$Tokens", name := "byteAt", desc := "(I)I" } : Jvm.MethodName)) ∈ lw_all := lw_g (lw_at lw_m5 0 rfl) rfl
theorem q1187 : (Jvm.Cond.code ({ cls := "GraftTrees$Tokens", name := "byteAt", desc := "(I)I" } : Jvm.MethodName) prog_8_method_3_code (2 : Nat) (Option.some Jvm.ClassFile.FieldType.int)) ∈ lw_all := lw_g (lw_at lw_m5 1 rfl) rfl
theorem q1188 : (Jvm.Cond.methodLink "GraftTrees$Tokens" (53 : Nat) ({ cls := "GraftTrees$Tokens", name := "isLetter", desc := "(I)Z" } : Jvm.MethodName)) ∈ lw_all := lw_g (lw_at lw_m5 2 rfl) rfl
theorem q1189 : (Jvm.Cond.static ({ cls := "GraftTrees$Tokens", name := "isLetter", desc := "(I)Z" } : Jvm.MethodName)) ∈ lw_all := lw_g (lw_at lw_m5 3 rfl) rfl
theorem q1190 : (Jvm.Cond.code ({ cls := "GraftTrees$Tokens", name := "isLetter", desc := "(I)Z" } : Jvm.MethodName) prog_8_method_4_code (1 : Nat) (Option.some Jvm.ClassFile.FieldType.boolean)) ∈ lw_all := lw_g (lw_at lw_m5 4 rfl) rfl
theorem q1191 : (Jvm.Cond.methodLink "GraftTrees$Tokens" (57 : Nat) ({ cls := "GraftTrees$Tokens", name := "isDigit", desc := "(I)Z" } : Jvm.MethodName)) ∈ lw_all := lw_g (lw_at lw_m5 5 rfl) rfl
theorem q1192 : (Jvm.Cond.static ({ cls := "GraftTrees$Tokens", name := "isDigit", desc := "(I)Z" } : Jvm.MethodName)) ∈ lw_all := lw_g (lw_at lw_m5 6 rfl) rfl
theorem q1193 : (Jvm.Cond.code ({ cls := "GraftTrees$Tokens", name := "isDigit", desc := "(I)Z" } : Jvm.MethodName) prog_8_method_5_code (1 : Nat) (Option.some Jvm.ClassFile.FieldType.boolean)) ∈ lw_all := lw_g (lw_at lw_m5 7 rfl) rfl
theorem q1194 : (Jvm.Cond.methodLink "GraftTrees$Tokens" (60 : Nat) ({ cls := "GraftTrees$Tokens", name := "isWord", desc := "()Z" } : Jvm.MethodName)) ∈ lw_all := lw_g (lw_at lw_m5 8 rfl) rfl
theorem q1195 : (Jvm.Cond.privateMethod ({ cls := "GraftTrees$Tokens", name := "isWord", desc := "()Z" } : Jvm.MethodName)) ∈ lw_tbl := lw_at lw_m5 9 rfl
theorem q1196 : (Jvm.Cond.instanceMethod ({ cls := "GraftTrees$Tokens", name := "isWord", desc := "()Z" } : Jvm.MethodName)) ∈ lw_all := lw_g (lw_at lw_m5 10 rfl) rfl
theorem q1197 : (Jvm.Cond.code ({ cls := "GraftTrees$Tokens", name := "isWord", desc := "()Z" } : Jvm.MethodName) prog_8_method_11_code (1 : Nat) (Option.some Jvm.ClassFile.FieldType.boolean)) ∈ lw_all := lw_g (lw_at lw_m5 11 rfl) rfl
theorem q1198 : (Jvm.Cond.methodLink "GraftTrees$Tokens" (82 : Nat) ({ cls := "GraftTrees$Tokens", name := "word", desc := "()I" } : Jvm.MethodName)) ∈ lw_all := lw_g (lw_at lw_m5 12 rfl) rfl
theorem q1199 : (Jvm.Cond.instanceMethod ({ cls := "GraftTrees$Tokens", name := "word", desc := "()I" } : Jvm.MethodName)) ∈ lw_all := lw_g (lw_at lw_m5 13 rfl) rfl
theorem q1200 : (Jvm.Cond.selects "GraftTrees$Tokens" ({ cls := "GraftTrees$Tokens", name := "word", desc := "()I" } : Jvm.MethodName) ({ cls := "GraftTrees$Tokens", name := "word", desc := "()I" } : Jvm.MethodName)) ∈ lw_all := lw_g (lw_at lw_m5 14 rfl) rfl
theorem q1201 : (Jvm.Cond.code ({ cls := "GraftTrees$Tokens", name := "word", desc := "()I" } : Jvm.MethodName) prog_8_method_12_code (5 : Nat) (Option.some Jvm.ClassFile.FieldType.int)) ∈ lw_all := lw_g (lw_at lw_m5 15 rfl) rfl
theorem q1202 : (Jvm.Cond.stringRef "GraftTrees$Tokens" (86 : Nat) "function if else while return break continue true false null ") ∈ lw_tbl := lw_at lw_m5 16 rfl
theorem q1203 : (Jvm.Cond.methodLink "GraftTrees$Tokens" (88 : Nat) ({ cls := "java/lang/String", name := "length", desc := "()I" } : Jvm.MethodName)) ∈ lw_all := lw_g (lw_at lw_m5 17 rfl) rfl
theorem q1204 : (Jvm.Cond.methodLink "GraftTrees$Tokens" (90 : Nat) ({ cls := "java/lang/String", name := "indexOf", desc := "(II)I" } : Jvm.MethodName)) ∈ lw_all := lw_g (lw_at lw_m5 18 rfl) rfl
theorem q1255 : (Jvm.Cond.methodLink "GraftTrees$Tokens" (93 : Nat) ({ cls := "java/lang/String", name := "charAt", desc := "(I)C" } : Jvm.MethodName)) ∈ lw_all := lw_g (lw_at lw_m5 69 rfl) rfl
theorem q1256 : (Jvm.Cond.methodLink "GraftTrees$Tokens" (64 : Nat) ({ cls := "GraftTrees$Tokens", name := "fails", desc := "(II)Z" } : Jvm.MethodName)) ∈ lw_all := lw_g (lw_at lw_m5 70 rfl) rfl
theorem q1257 : (Jvm.Cond.instanceMethod ({ cls := "GraftTrees$Tokens", name := "fails", desc := "(II)Z" } : Jvm.MethodName)) ∈ lw_all := lw_g (lw_at lw_m5 71 rfl) rfl
theorem q1258 : (Jvm.Cond.selects "GraftTrees$Tokens" ({ cls := "GraftTrees$Tokens", name := "fails", desc := "(II)Z" } : Jvm.MethodName) ({ cls := "GraftTrees$Tokens", name := "fails", desc := "(II)Z" } : Jvm.MethodName)) ∈ lw_all := lw_g (lw_at lw_m5 72 rfl) rfl
theorem q1259 : (Jvm.Cond.code ({ cls := "GraftTrees$Tokens", name := "fails", desc := "(II)Z" } : Jvm.MethodName) prog_8_method_6_code (3 : Nat) (Option.some Jvm.ClassFile.FieldType.boolean)) ∈ lw_all := lw_g (lw_at lw_m5 73 rfl) rfl
theorem q1260 : (Jvm.Cond.methodLink "GraftTrees$Tokens" (68 : Nat) ({ cls := "GraftTrees$Tokens", name := "string", desc := "()V" } : Jvm.MethodName)) ∈ lw_all := lw_g (lw_at lw_m5 74 rfl) rfl
theorem q1261 : (Jvm.Cond.privateMethod ({ cls := "GraftTrees$Tokens", name := "string", desc := "()V" } : Jvm.MethodName)) ∈ lw_tbl := lw_at lw_m5 75 rfl
theorem q1262 : (Jvm.Cond.instanceMethod ({ cls := "GraftTrees$Tokens", name := "string", desc := "()V" } : Jvm.MethodName)) ∈ lw_all := lw_g (lw_at lw_m5 76 rfl) rfl
theorem q1263 : (Jvm.Cond.code ({ cls := "GraftTrees$Tokens", name := "string", desc := "()V" } : Jvm.MethodName) prog_8_method_9_code (2 : Nat) (Option.none : Option Jvm.ClassFile.FieldType)) ∈ lw_all := lw_g (lw_at lw_m5 77 rfl) rfl
theorem q1264 : (Jvm.Cond.methodLink "GraftTrees$Tokens" (71 : Nat) ({ cls := "GraftTrees$Tokens", name := "signs", desc := "(I)V" } : Jvm.MethodName)) ∈ lw_all := lw_g (lw_at lw_m5 78 rfl) rfl
theorem q1265 : (Jvm.Cond.privateMethod ({ cls := "GraftTrees$Tokens", name := "signs", desc := "(I)V" } : Jvm.MethodName)) ∈ lw_tbl := lw_at lw_m5 79 rfl
theorem q1266 : (Jvm.Cond.instanceMethod ({ cls := "GraftTrees$Tokens", name := "signs", desc := "(I)V" } : Jvm.MethodName)) ∈ lw_all := lw_g (lw_at lw_m5 80 rfl) rfl
theorem q1267 : (Jvm.Cond.code ({ cls := "GraftTrees$Tokens", name := "signs", desc := "(I)V" } : Jvm.MethodName) prog_8_method_10_code (3 : Nat) (Option.none : Option Jvm.ClassFile.FieldType)) ∈ lw_all := lw_g (lw_at lw_m5 81 rfl) rfl
theorem q1268 : (Jvm.Cond.stringRef "GraftTrees$Tokens" (75 : Nat) "(){}[],;.=!<>+-*/") ∈ lw_tbl := lw_at lw_m5 82 rfl
theorem q1269 : (Jvm.Cond.methodLink "GraftTrees$Tokens" (77 : Nat) ({ cls := "java/lang/String", name := "indexOf", desc := "(I)I" } : Jvm.MethodName)) ∈ lw_all := lw_g (lw_at lw_m5 83 rfl) rfl
theorem q1284 : (Jvm.Cond.instanceMethod ({ cls := "GraftTrees$Tokens", name := "isWord", desc := "(Ljava/lang/String;)Z" } : Jvm.MethodName)) ∈ lw_all := lw_g (lw_at lw_m5 98 rfl) rfl
theorem q1285 : (Jvm.Cond.selects "GraftTrees$Tokens" ({ cls := "GraftTrees$Tokens", name := "isWord", desc := "(Ljava/lang/String;)Z" } : Jvm.MethodName) ({ cls := "GraftTrees$Tokens", name := "isWord", desc := "(Ljava/lang/String;)Z" } : Jvm.MethodName)) ∈ lw_all := lw_g (lw_at lw_m5 99 rfl) rfl
theorem q1286 : (Jvm.Cond.code ({ cls := "GraftTrees$Tokens", name := "isWord", desc := "(Ljava/lang/String;)Z" } : Jvm.MethodName) prog_8_method_14_code (2 : Nat) (Option.some Jvm.ClassFile.FieldType.boolean)) ∈ lw_all := lw_g (lw_at lw_m5 100 rfl) rfl
theorem q1287 : (Jvm.Cond.methodLink "GraftTrees$Tokens" (97 : Nat) ({ cls := "java/lang/String", name := "indexOf", desc := "(Ljava/lang/String;)I" } : Jvm.MethodName)) ∈ lw_all := lw_g (lw_at lw_m5 101 rfl) rfl
theorem q1321 : (Jvm.Cond.instanceMethod ({ cls := "GraftTrees$Tokens", name := "is", desc := "(I)Z" } : Jvm.MethodName)) ∈ lw_all := lw_g (lw_at lw_m5 135 rfl) rfl
theorem q1322 : (Jvm.Cond.selects "GraftTrees$Tokens" ({ cls := "GraftTrees$Tokens", name := "is", desc := "(I)Z" } : Jvm.MethodName) ({ cls := "GraftTrees$Tokens", name := "is", desc := "(I)Z" } : Jvm.MethodName)) ∈ lw_all := lw_g (lw_at lw_m5 136 rfl) rfl
theorem q1323 : (Jvm.Cond.code ({ cls := "GraftTrees$Tokens", name := "is", desc := "(I)Z" } : Jvm.MethodName) prog_8_method_13_code (2 : Nat) (Option.some Jvm.ClassFile.FieldType.boolean)) ∈ lw_all := lw_g (lw_at lw_m5 137 rfl) rfl
theorem in_X8 : ∀ w ∈ wsX80, w ∈ lw_all := lw_in wsX80 [825, 827, 829, 831, 833, 835, 837, 839, 841, 843] (by decide +kernel) (by decide +kernel)
/-! GraftTrees$Machine -/
def RX9 : String := "GraftTrees$Machine"
def TX9 : u_T := fun k => match k with
  | 0 => ("GraftTrees$Machine", "heap", "LGraftTrees$Heap;", true)
  | 1 => ("GraftTrees$Machine", "forest", "LGraftTrees$Forest;", true)
  | 2 => ("GraftTrees$Machine", "shapes", "LGraftTrees$Shapes;", true)
  | 3 => ("GraftTrees$Machine", "codes", "LGraftTrees$Codes;", true)
  | 4 => ("GraftTrees$Machine", "parser", "LGraftTrees$Parser;", true)
  | 5 => ("GraftTrees$Machine", "threshold", "I", true)
  | 6 => ("GraftTrees$Machine", "kinds", "[I", true)
  | 7 => ("GraftTrees$Machine", "nums", "[J", true)
  | 8 => ("GraftTrees$Machine", "top", "I", false)
  | 9 => ("GraftTrees$Machine", "rootOf", "[I", true)
  | 10 => ("GraftTrees$Machine", "pcOf", "[I", true)
  | 11 => ("GraftTrees$Machine", "baseOf", "[I", true)
  | 12 => ("GraftTrees$Machine", "codeOf", "[I", true)
  | 13 => ("GraftTrees$Machine", "unitOf", "[I", true)
  | 14 => ("GraftTrees$Machine", "frameOf", "[I", true)
  | 15 => ("GraftTrees$Machine", "isInlined", "[Z", true)
  | 16 => ("GraftTrees$Machine", "localKind", "[I", true)
  | 17 => ("GraftTrees$Machine", "tag", "[I", true)
  | 18 => ("GraftTrees$Machine", "local", "[J", true)
  | 19 => ("GraftTrees$Machine", "many", "I", false)
  | 20 => ("GraftTrees$Machine", "most", "I", false)
  | 21 => ("GraftTrees$Machine", "cur", "I", false)
  | 22 => ("GraftTrees$Machine", "pc", "I", false)
  | 23 => ("GraftTrees$Machine", "state", "I", false)
  | 24 => ("GraftTrees$Machine", "steps", "I", false)
  | 25 => ("GraftTrees$Machine", "error", "I", false)
  | 26 => ("GraftTrees$Machine", "errorRoot", "I", false)
  | 27 => ("GraftTrees$Machine", "errorNode", "I", false)
  | 28 => ("GraftTrees$Machine", "shapeOf", "[I", true)
  | 29 => ("GraftTrees$Machine", "fieldKind", "[I", true)
  | 30 => ("GraftTrees$Machine", "field", "[J", true)
  | 31 => ("GraftTrees$Machine", "objects", "I", false)
  | 32 => ("GraftTrees$Machine", "out", "[B", true)
  | 33 => ("GraftTrees$Machine", "result", "[B", true)
  | 34 => ("GraftTrees$Machine", "said", "I", false)
  | 35 => ("GraftTrees$Machine", "results", "I", false)
  | 36 => ("GraftTrees$Machine", "changes", "I", false)
  | 37 => ("GraftTrees$Machine", "entered", "I", false)
  | 38 => ("GraftTrees$Machine", "exits", "I", false)
  | 39 => ("GraftTrees$Machine", "falls", "I", false)
  | 40 => ("GraftTrees$Machine", "moves", "I", false)
  | 41 => ("GraftTrees$Machine", "calls", "I", false)
  | 42 => ("GraftTrees$Machine", "inlined", "I", false)
  | 43 => ("GraftTrees$Machine", "a", "LGraftTrees$Whole;", true)
  | 44 => ("GraftTrees$Machine", "b", "LGraftTrees$Whole;", true)
  | 45 => ("GraftTrees$Machine", "c", "LGraftTrees$Whole;", true)
  | 46 => ("GraftTrees$Machine", "rest", "LGraftTrees$Whole;", true)
  | _ => ("GraftTrees$Machine", "fit", "J", false)
def tyX9 : Nat → FieldType := fun k => match k with
  | 0 => .object "GraftTrees$Heap"
  | 1 => .object "GraftTrees$Forest"
  | 2 => .object "GraftTrees$Shapes"
  | 3 => .object "GraftTrees$Codes"
  | 4 => .object "GraftTrees$Parser"
  | 5 => .int
  | 6 => .array .int
  | 7 => .array .long
  | 8 => .int
  | 9 => .array .int
  | 10 => .array .int
  | 11 => .array .int
  | 12 => .array .int
  | 13 => .array .int
  | 14 => .array .int
  | 15 => .array .boolean
  | 16 => .array .int
  | 17 => .array .int
  | 18 => .array .long
  | 19 => .int
  | 20 => .int
  | 21 => .int
  | 22 => .int
  | 23 => .int
  | 24 => .int
  | 25 => .int
  | 26 => .int
  | 27 => .int
  | 28 => .array .int
  | 29 => .array .int
  | 30 => .array .long
  | 31 => .int
  | 32 => .array .byte
  | 33 => .array .byte
  | 34 => .int
  | 35 => .int
  | 36 => .int
  | 37 => .int
  | 38 => .int
  | 39 => .int
  | 40 => .int
  | 41 => .int
  | 42 => .int
  | 43 => .object "GraftTrees$Whole"
  | 44 => .object "GraftTrees$Whole"
  | 45 => .object "GraftTrees$Whole"
  | 46 => .object "GraftTrees$Whole"
  | _ => .long
abbrev wsX90 : List Cond := u_ws RX9 TX9 48
theorem nmX9 : ∀ a, a < 48 → ∀ b, b < 48 → a ≠ b → (TX9 a).2.1 ≠ (TX9 b).2.1 := by decide +kernel
theorem tyX9_ok : ∀ k, k < 48 → parseFieldDescriptor (TX9 k).2.2.1 = some (tyX9 k) := by decide +kernel
abbrev cX9_init : ByteArray := prog_5_method_1_code
def yX9_init : MethodName := ⟨RX9, "<init>", "(LGraftTrees$Heap;LGraftTrees$Forest;LGraftTrees$Shapes;LGraftTrees$Codes;LGraftTrees$Parser;I)V"⟩
abbrev cX9_clear : ByteArray := prog_5_method_2_code
def yX9_clear : MethodName := ⟨RX9, "clear", "()V"⟩
abbrev cX9_none : ByteArray := prog_5_method_3_code
def yX9_none : MethodName := ⟨RX9, "none", "()V"⟩
abbrev cX9_start : ByteArray := prog_5_method_4_code
def yX9_start : MethodName := ⟨RX9, "start", "(IJJ)V"⟩
abbrev cX9_push : ByteArray := prog_5_method_7_code
def yX9_push : MethodName := ⟨RX9, "push", "(IJ)V"⟩
abbrev cX9_activate : ByteArray := prog_5_method_24_code
def yX9_activate : MethodName := ⟨RX9, "activate", "(IIII)V"⟩
abbrev cX9_enters : ByteArray := prog_5_method_14_code
def yX9_enters : MethodName := ⟨RX9, "enters", "(I)V"⟩
abbrev cX9_write : ByteArray := prog_5_method_20_code
def yX9_write : MethodName := ⟨RX9, "write", "(IIJ)V"⟩
abbrev cX9_changes : ByteArray := prog_5_method_10_code
def yX9_changes : MethodName := ⟨RX9, "changes", "(II)V"⟩
abbrev cX9_changed : ByteArray := prog_5_method_11_code
def yX9_changed : MethodName := ⟨RX9, "changed", "(I)V"⟩
abbrev cX9_leaves : ByteArray := prog_5_method_12_code
def yX9_leaves : MethodName := ⟨RX9, "leaves", "()V"⟩
abbrev cX9_go : ByteArray := prog_5_method_5_code
def yX9_go : MethodName := ⟨RX9, "go", "(I)I"⟩
abbrev cX9_fails : ByteArray := prog_5_method_6_code
def yX9_fails : MethodName := ⟨RX9, "fails", "(II)Z"⟩
abbrev cX9_falls : ByteArray := prog_5_method_13_code
def yX9_falls : MethodName := ⟨RX9, "falls", "()V"⟩
abbrev cX9_again : ByteArray := prog_5_method_15_code
def yX9_again : MethodName := ⟨RX9, "again", "()V"⟩
abbrev cX9_work : ByteArray := prog_5_method_8_code
def yX9_work : MethodName := ⟨RX9, "work", "(II)V"⟩
abbrev cX9_read : ByteArray := prog_5_method_19_code
def yX9_read : MethodName := ⟨RX9, "read", "(I)V"⟩
abbrev cX9_longs : ByteArray := prog_5_method_42_code
def yX9_longs : MethodName := ⟨RX9, "longs", "(I)Z"⟩
abbrev cX9_areLongs : ByteArray := prog_5_method_39_code
def yX9_areLongs : MethodName := ⟨RX9, "areLongs", "()Z"⟩
abbrev cX9_holds : ByteArray := prog_5_method_41_code
def yX9_holds : MethodName := ⟨RX9, "holds", "(II)Z"⟩
abbrev cX9_settle : ByteArray := prog_5_method_43_code
def yX9_settle : MethodName := ⟨RX9, "settle", "(IJ)V"⟩
abbrev cX9_fits : ByteArray := prog_5_method_40_code
def yX9_fits : MethodName := ⟨RX9, "fits", "(IJJ)Z"⟩
abbrev cX9_two : ByteArray := prog_5_method_45_code
def yX9_two : MethodName := ⟨RX9, "two", "(I)Z"⟩
abbrev cX9_alike : ByteArray := prog_5_method_49_code
def yX9_alike : MethodName := ⟨RX9, "alike", "(II)Z"⟩
abbrev cX9_isNumber : ByteArray := prog_5_method_38_code
def yX9_isNumber : MethodName := ⟨RX9, "isNumber", "(I)Z"⟩
abbrev cX9_order : ByteArray := prog_5_method_47_code
def yX9_order : MethodName := ⟨RX9, "order", "()I"⟩
abbrev cX9_whole : ByteArray := prog_5_method_37_code
def yX9_whole : MethodName := ⟨RX9, "whole", "(ILGraftTrees$Whole;)V"⟩
abbrev cX9_needs : ByteArray := prog_5_method_44_code
def yX9_needs : MethodName := ⟨RX9, "needs", "(IIZ)V"⟩
abbrev cX9_joins : ByteArray := prog_5_method_48_code
def yX9_joins : MethodName := ⟨RX9, "joins", "(I)Z"⟩
abbrev cX9_shows : ByteArray := prog_5_method_29_code
def yX9_shows : MethodName := ⟨RX9, "shows", "(IJ)V"⟩
abbrev cX9_digits : ByteArray := prog_5_method_32_code
def yX9_digits : MethodName := ⟨RX9, "digits", "(LGraftTrees$Whole;)V"⟩
abbrev cX9_letters : ByteArray := prog_5_method_31_code
def yX9_letters : MethodName := ⟨RX9, "letters", "(I)V"⟩
abbrev cX9_says : ByteArray := prog_5_method_30_code
def yX9_says : MethodName := ⟨RX9, "says", "(Ljava/lang/String;)V"⟩
abbrev cX9_compares : ByteArray := prog_5_method_46_code
def yX9_compares : MethodName := ⟨RX9, "compares", "(IIZ)Z"⟩
abbrev cX9_left : ByteArray := prog_5_method_18_code
def yX9_left : MethodName := ⟨RX9, "left", "(I)V"⟩
abbrev cX9_isTruth : ByteArray := prog_5_method_9_code
def yX9_isTruth : MethodName := ⟨RX9, "isTruth", "(I)Z"⟩
abbrev cX9_took : ByteArray := prog_5_method_17_code
def yX9_took : MethodName := ⟨RX9, "took", "(II)V"⟩
abbrev cX9_get : ByteArray := prog_5_method_35_code
def yX9_get : MethodName := ⟨RX9, "get", "(I)Z"⟩
abbrev cX9_nameAt : ByteArray := prog_5_method_33_code
def yX9_nameAt : MethodName := ⟨RX9, "nameAt", "(II)I"⟩
abbrev cX9_moves : ByteArray := prog_5_method_34_code
def yX9_moves : MethodName := ⟨RX9, "moves", "(I)V"⟩
abbrev cX9_settles : ByteArray := prog_5_method_22_code
def yX9_settles : MethodName := ⟨RX9, "settles", "(IIIII)V"⟩
abbrev cX9_isStale : ByteArray := prog_5_method_23_code
def yX9_isStale : MethodName := ⟨RX9, "isStale", "(II)Z"⟩
abbrev cX9_put : ByteArray := prog_5_method_36_code
def yX9_put : MethodName := ⟨RX9, "put", "(I)Z"⟩
abbrev cX9_call : ByteArray := prog_5_method_21_code
def yX9_call : MethodName := ⟨RX9, "call", "(I)V"⟩
abbrev cX9_there : ByteArray := prog_5_method_26_code
def yX9_there : MethodName := ⟨RX9, "there", "(IIII)V"⟩
abbrev cX9_print : ByteArray := prog_5_method_27_code
def yX9_print : MethodName := ⟨RX9, "print", "(IJ)V"⟩
abbrev cX9_define : ByteArray := prog_5_method_28_code
def yX9_define : MethodName := ⟨RX9, "define", "(IIJ)Z"⟩
abbrev cX9_test : ByteArray := prog_5_method_16_code
def yX9_test : MethodName := ⟨RX9, "test", "(I)V"⟩
abbrev cX9_comesBack : ByteArray := prog_5_method_25_code
def yX9_comesBack : MethodName := ⟨RX9, "comesBack", "()V"⟩
theorem q240 : (Jvm.Cond.initialized "GraftTrees$Machine") ∈ lw_all := lw_g (lw_at lw_m1 14 rfl) rfl
theorem q271 : (Jvm.Cond.fieldLinkNest "GraftTrees$Machine" (369 : Nat) "GraftTrees$Heap" "letters" "[B" "GraftTrees") ∈ lw_tbl := lw_at lw_m1 45 rfl
theorem q276 : (Jvm.Cond.fieldLinkNest "GraftTrees$Machine" (387 : Nat) "GraftTrees$Heap" "from" "[I" "GraftTrees") ∈ lw_tbl := lw_at lw_m1 50 rfl
theorem q281 : (Jvm.Cond.fieldLinkNest "GraftTrees$Machine" (388 : Nat) "GraftTrees$Heap" "size" "[I" "GraftTrees") ∈ lw_tbl := lw_at lw_m1 55 rfl
theorem q293 : (Jvm.Cond.fieldLinkNest "GraftTrees$Machine" (372 : Nat) "GraftTrees$Heap" "used" "I" "GraftTrees") ∈ lw_tbl := lw_at lw_m1 67 rfl
theorem q347 : (Jvm.Cond.fieldLinkNest "GraftTrees$Machine" (445 : Nat) "GraftTrees$Whole" "sign" "I" "GraftTrees") ∈ lw_tbl := lw_at lw_m1 121 rfl
theorem q469 : (Jvm.Cond.fieldLinkNest "GraftTrees$Machine" (307 : Nat) "GraftTrees$Forest" "kind" "[I" "GraftTrees") ∈ lw_tbl := lw_at lw_m2 3 rfl
theorem q473 : (Jvm.Cond.fieldLinkNest "GraftTrees$Machine" (263 : Nat) "GraftTrees$Forest" "state" "[I" "GraftTrees") ∈ lw_tbl := lw_at lw_m2 7 rfl
theorem q477 : (Jvm.Cond.fieldLinkNest "GraftTrees$Machine" (273 : Nat) "GraftTrees$Forest" "changes" "[I" "GraftTrees") ∈ lw_tbl := lw_at lw_m2 11 rfl
theorem q481 : (Jvm.Cond.fieldLinkNest "GraftTrees$Machine" (310 : Nat) "GraftTrees$Forest" "local" "[I" "GraftTrees") ∈ lw_tbl := lw_at lw_m2 15 rfl
theorem q483 : (Jvm.Cond.fieldLinkNest "GraftTrees$Machine" (315 : Nat) "GraftTrees$Forest" "many" "[I" "GraftTrees") ∈ lw_tbl := lw_at lw_m2 17 rfl
theorem q487 : (Jvm.Cond.fieldLinkNest "GraftTrees$Machine" (218 : Nat) "GraftTrees$Forest" "constKind" "[I" "GraftTrees") ∈ lw_tbl := lw_at lw_m2 21 rfl
theorem q490 : (Jvm.Cond.fieldLinkNest "GraftTrees$Machine" (221 : Nat) "GraftTrees$Forest" "constant" "[J" "GraftTrees") ∈ lw_tbl := lw_at lw_m2 24 rfl
theorem q494 : (Jvm.Cond.fieldLinkNest "GraftTrees$Machine" (331 : Nat) "GraftTrees$Forest" "entries" "[I" "GraftTrees") ∈ lw_tbl := lw_at lw_m2 28 rfl
theorem q498 : (Jvm.Cond.fieldLinkNest "GraftTrees$Machine" (337 : Nat) "GraftTrees$Forest" "entry" "[I" "GraftTrees") ∈ lw_tbl := lw_at lw_m2 32 rfl
theorem q501 : (Jvm.Cond.fieldLinkNest "GraftTrees$Machine" (184 : Nat) "GraftTrees$Forest" "op" "[I" "GraftTrees") ∈ lw_tbl := lw_at lw_m2 35 rfl
theorem q504 : (Jvm.Cond.fieldLinkNest "GraftTrees$Machine" (257 : Nat) "GraftTrees$Forest" "to" "[I" "GraftTrees") ∈ lw_tbl := lw_at lw_m2 38 rfl
theorem q507 : (Jvm.Cond.fieldLinkNest "GraftTrees$Machine" (190 : Nat) "GraftTrees$Forest" "of" "[I" "GraftTrees") ∈ lw_tbl := lw_at lw_m2 41 rfl
theorem q512 : (Jvm.Cond.fieldLinkNest "GraftTrees$Machine" (431 : Nat) "GraftTrees$Forest" "funName" "[I" "GraftTrees") ∈ lw_tbl := lw_at lw_m2 46 rfl
theorem q515 : (Jvm.Cond.fieldLinkNest "GraftTrees$Machine" (317 : Nat) "GraftTrees$Forest" "newest" "[I" "GraftTrees") ∈ lw_tbl := lw_at lw_m2 49 rfl
theorem q518 : (Jvm.Cond.fieldLinkNest "GraftTrees$Machine" (162 : Nat) "GraftTrees$Forest" "fun" "[I" "GraftTrees") ∈ lw_tbl := lw_at lw_m2 52 rfl
theorem q522 : (Jvm.Cond.fieldLinkNest "GraftTrees$Machine" (212 : Nat) "GraftTrees$Forest" "from" "[I" "GraftTrees") ∈ lw_tbl := lw_at lw_m2 56 rfl
theorem q530 : (Jvm.Cond.fieldLinkNest "GraftTrees$Machine" (296 : Nat) "GraftTrees$Forest" "begin" "[I" "GraftTrees") ∈ lw_tbl := lw_at lw_m2 64 rfl
theorem q534 : (Jvm.Cond.fieldLinkNest "GraftTrees$Machine" (356 : Nat) "GraftTrees$Forest" "params" "[I" "GraftTrees") ∈ lw_tbl := lw_at lw_m2 68 rfl
theorem q537 : (Jvm.Cond.fieldLinkNest "GraftTrees$Machine" (353 : Nat) "GraftTrees$Forest" "locals" "[I" "GraftTrees") ∈ lw_tbl := lw_at lw_m2 71 rfl
theorem q547 : (Jvm.Cond.fieldLinkNest "GraftTrees$Machine" (290 : Nat) "GraftTrees$Forest" "valid" "[I" "GraftTrees") ∈ lw_tbl := lw_at lw_m2 81 rfl
theorem q549 : (Jvm.Cond.fieldLinkNest "GraftTrees$Machine" (312 : Nat) "GraftTrees$Forest" "sorts" "[I" "GraftTrees") ∈ lw_tbl := lw_at lw_m2 83 rfl
theorem q552 : (Jvm.Cond.fieldLinkNest "GraftTrees$Machine" (396 : Nat) "GraftTrees$Forest" "roots" "I" "GraftTrees") ∈ lw_tbl := lw_at lw_m2 86 rfl
theorem q562 : (Jvm.Cond.fieldLinkNest "GraftTrees$Machine" (378 : Nat) "GraftTrees$Forest" "kindName" "[I" "GraftTrees") ∈ lw_tbl := lw_at lw_m2 96 rfl
theorem q669 : (Jvm.Cond.fieldLinkNest "GraftTrees$Machine" (343 : Nat) "GraftTrees$Shapes" "heir" "[I" "GraftTrees") ∈ lw_tbl := lw_at lw_m2 203 rfl
theorem q672 : (Jvm.Cond.fieldLinkNest "GraftTrees$Machine" (470 : Nat) "GraftTrees$Shapes" "many" "[I" "GraftTrees") ∈ lw_tbl := lw_at lw_m2 206 rfl
theorem q730 : (Jvm.Cond.fieldLinkNest "GraftTrees$Machine" (285 : Nat) "GraftTrees$Codes" "entered" "[I" "GraftTrees") ∈ lw_tbl := lw_at lw_m3 24 rfl
theorem q733 : (Jvm.Cond.fieldLinkNest "GraftTrees$Machine" (268 : Nat) "GraftTrees$Codes" "exits" "[I" "GraftTrees") ∈ lw_tbl := lw_at lw_m3 27 rfl
theorem q736 : (Jvm.Cond.fieldLinkNest "GraftTrees$Machine" (283 : Nat) "GraftTrees$Codes" "falls" "[I" "GraftTrees") ∈ lw_tbl := lw_at lw_m3 30 rfl
theorem q739 : (Jvm.Cond.fieldLinkNest "GraftTrees$Machine" (280 : Nat) "GraftTrees$Codes" "isValid" "[Z" "GraftTrees") ∈ lw_tbl := lw_at lw_m3 33 rfl
theorem q751 : (Jvm.Cond.fieldLinkNest "GraftTrees$Machine" (276 : Nat) "GraftTrees$Codes" "walk" "[I" "GraftTrees") ∈ lw_tbl := lw_at lw_m3 45 rfl
theorem q882 : (Jvm.Cond.fieldLinkNest "GraftTrees$Machine" (399 : Nat) "GraftTrees$Parser" "functions" "I" "GraftTrees") ∈ lw_tbl := lw_at lw_m3 176 rfl
theorem q934 : (Jvm.Cond.instantiable "GraftTrees$Machine" (48 : Nat)) ∈ lw_all := lw_g (lw_at lw_m3 228 rfl) rfl
theorem q942 : (Jvm.Cond.instanceMethod ({ cls := "GraftTrees$Machine", name := "<init>", desc := "(LGraftTrees$Heap;LGraftTrees$Forest;LGraftTrees$Shapes;LGraftTrees$Codes;LGraftTrees$Parser;I)V" } : Jvm.MethodName)) ∈ lw_all := lw_g (lw_at lw_m3 236 rfl) rfl
theorem q943 : (Jvm.Cond.code ({ cls := "GraftTrees$Machine", name := "<init>", desc := "(LGraftTrees$Heap;LGraftTrees$Forest;LGraftTrees$Shapes;LGraftTrees$Codes;LGraftTrees$Parser;I)V" } : Jvm.MethodName) prog_5_method_1_code (7 : Nat) (Option.none : Option Jvm.ClassFile.FieldType)) ∈ lw_all := lw_g (lw_at lw_m3 237 rfl) rfl
theorem q944 : (Jvm.Cond.methodLink "GraftTrees$Machine" (3 : Nat) ({ cls := "java/lang/Object", name := "<init>", desc := "()V" } : Jvm.MethodName)) ∈ lw_all := lw_g (lw_at lw_m3 238 rfl) rfl
theorem q945 : (Jvm.Cond.classLink "GraftTrees$Machine" (66 : Nat) "GraftTrees$Whole") ∈ lw_all := lw_g (lw_at lw_m3 239 rfl) rfl
theorem q946 : (Jvm.Cond.methodLinkNest "GraftTrees$Machine" (68 : Nat) ({ cls := "GraftTrees$Whole", name := "<init>", desc := "()V" } : Jvm.MethodName) "GraftTrees") ∈ lw_tbl := lw_at lw_m4 0 rfl
theorem q947 : (Jvm.Cond.fieldLink "GraftTrees$Machine" (82 : Nat) "GraftTrees$Machine" "heap" "LGraftTrees$Heap;") ∈ lw_all := lw_g (lw_at lw_m4 1 rfl) rfl
theorem q948 : (Jvm.Cond.fieldLink "GraftTrees$Machine" (86 : Nat) "GraftTrees$Machine" "forest" "LGraftTrees$Forest;") ∈ lw_all := lw_g (lw_at lw_m4 2 rfl) rfl
theorem q949 : (Jvm.Cond.fieldLink "GraftTrees$Machine" (90 : Nat) "GraftTrees$Machine" "shapes" "LGraftTrees$Shapes;") ∈ lw_all := lw_g (lw_at lw_m4 3 rfl) rfl
theorem q950 : (Jvm.Cond.fieldLink "GraftTrees$Machine" (94 : Nat) "GraftTrees$Machine" "codes" "LGraftTrees$Codes;") ∈ lw_all := lw_g (lw_at lw_m4 4 rfl) rfl
theorem q951 : (Jvm.Cond.fieldLink "GraftTrees$Machine" (98 : Nat) "GraftTrees$Machine" "parser" "LGraftTrees$Parser;") ∈ lw_all := lw_g (lw_at lw_m4 5 rfl) rfl
theorem q952 : (Jvm.Cond.fieldLink "GraftTrees$Machine" (102 : Nat) "GraftTrees$Machine" "threshold" "I") ∈ lw_all := lw_g (lw_at lw_m4 6 rfl) rfl
theorem q953 : (Jvm.Cond.fieldLink "GraftTrees$Machine" (11 : Nat) "GraftTrees$Machine" "kinds" "[I") ∈ lw_all := lw_g (lw_at lw_m4 7 rfl) rfl
theorem q954 : (Jvm.Cond.fieldLink "GraftTrees$Machine" (15 : Nat) "GraftTrees$Machine" "nums" "[J") ∈ lw_all := lw_g (lw_at lw_m4 8 rfl) rfl
theorem q955 : (Jvm.Cond.fieldLink "GraftTrees$Machine" (159 : Nat) "GraftTrees$Machine" "top" "I") ∈ lw_all := lw_g (lw_at lw_m4 9 rfl) rfl
theorem q956 : (Jvm.Cond.fieldLink "GraftTrees$Machine" (19 : Nat) "GraftTrees$Machine" "rootOf" "[I") ∈ lw_all := lw_g (lw_at lw_m4 10 rfl) rfl
theorem q958 : (Jvm.Cond.fieldLink "GraftTrees$Machine" (22 : Nat) "GraftTrees$Machine" "pcOf" "[I") ∈ lw_all := lw_g (lw_at lw_m4 12 rfl) rfl
theorem q959 : (Jvm.Cond.fieldLink "GraftTrees$Machine" (25 : Nat) "GraftTrees$Machine" "baseOf" "[I") ∈ lw_all := lw_g (lw_at lw_m4 13 rfl) rfl
theorem q960 : (Jvm.Cond.fieldLink "GraftTrees$Machine" (28 : Nat) "GraftTrees$Machine" "codeOf" "[I") ∈ lw_all := lw_g (lw_at lw_m4 14 rfl) rfl
theorem q962 : (Jvm.Cond.fieldLink "GraftTrees$Machine" (31 : Nat) "GraftTrees$Machine" "unitOf" "[I") ∈ lw_all := lw_g (lw_at lw_m4 16 rfl) rfl
theorem q964 : (Jvm.Cond.fieldLink "GraftTrees$Machine" (34 : Nat) "GraftTrees$Machine" "frameOf" "[I") ∈ lw_all := lw_g (lw_at lw_m4 18 rfl) rfl
theorem q965 : (Jvm.Cond.fieldLink "GraftTrees$Machine" (37 : Nat) "GraftTrees$Machine" "isInlined" "[Z") ∈ lw_all := lw_g (lw_at lw_m4 19 rfl) rfl
theorem q967 : (Jvm.Cond.fieldLink "GraftTrees$Machine" (41 : Nat) "GraftTrees$Machine" "localKind" "[I") ∈ lw_all := lw_g (lw_at lw_m4 21 rfl) rfl
theorem q968 : (Jvm.Cond.fieldLink "GraftTrees$Machine" (44 : Nat) "GraftTrees$Machine" "tag" "[I") ∈ lw_all := lw_g (lw_at lw_m4 22 rfl) rfl
theorem q970 : (Jvm.Cond.fieldLink "GraftTrees$Machine" (47 : Nat) "GraftTrees$Machine" "local" "[J") ∈ lw_all := lw_g (lw_at lw_m4 24 rfl) rfl
theorem q971 : (Jvm.Cond.fieldLink "GraftTrees$Machine" (133 : Nat) "GraftTrees$Machine" "many" "I") ∈ lw_all := lw_g (lw_at lw_m4 25 rfl) rfl
theorem q973 : (Jvm.Cond.fieldLink "GraftTrees$Machine" (136 : Nat) "GraftTrees$Machine" "most" "I") ∈ lw_all := lw_g (lw_at lw_m4 27 rfl) rfl
theorem q975 : (Jvm.Cond.fieldLink "GraftTrees$Machine" (206 : Nat) "GraftTrees$Machine" "cur" "I") ∈ lw_all := lw_g (lw_at lw_m4 29 rfl) rfl
theorem q976 : (Jvm.Cond.fieldLink "GraftTrees$Machine" (187 : Nat) "GraftTrees$Machine" "pc" "I") ∈ lw_all := lw_g (lw_at lw_m4 30 rfl) rfl
theorem q977 : (Jvm.Cond.fieldLink "GraftTrees$Machine" (130 : Nat) "GraftTrees$Machine" "state" "I") ∈ lw_all := lw_g (lw_at lw_m4 31 rfl) rfl
theorem q979 : (Jvm.Cond.fieldLink "GraftTrees$Machine" (139 : Nat) "GraftTrees$Machine" "steps" "I") ∈ lw_all := lw_g (lw_at lw_m4 33 rfl) rfl
theorem q981 : (Jvm.Cond.fieldLink "GraftTrees$Machine" (148 : Nat) "GraftTrees$Machine" "error" "I") ∈ lw_all := lw_g (lw_at lw_m4 35 rfl) rfl
theorem q983 : (Jvm.Cond.fieldLink "GraftTrees$Machine" (209 : Nat) "GraftTrees$Machine" "errorRoot" "I") ∈ lw_all := lw_g (lw_at lw_m4 37 rfl) rfl
theorem q985 : (Jvm.Cond.fieldLink "GraftTrees$Machine" (215 : Nat) "GraftTrees$Machine" "errorNode" "I") ∈ lw_all := lw_g (lw_at lw_m4 39 rfl) rfl
theorem q987 : (Jvm.Cond.fieldLink "GraftTrees$Machine" (50 : Nat) "GraftTrees$Machine" "shapeOf" "[I") ∈ lw_all := lw_g (lw_at lw_m4 41 rfl) rfl
theorem q988 : (Jvm.Cond.fieldLink "GraftTrees$Machine" (53 : Nat) "GraftTrees$Machine" "fieldKind" "[I") ∈ lw_all := lw_g (lw_at lw_m4 42 rfl) rfl
theorem q989 : (Jvm.Cond.fieldLink "GraftTrees$Machine" (56 : Nat) "GraftTrees$Machine" "field" "[J") ∈ lw_all := lw_g (lw_at lw_m4 43 rfl) rfl
theorem q990 : (Jvm.Cond.fieldLink "GraftTrees$Machine" (142 : Nat) "GraftTrees$Machine" "objects" "I") ∈ lw_all := lw_g (lw_at lw_m4 44 rfl) rfl
theorem q992 : (Jvm.Cond.fieldLink "GraftTrees$Machine" (59 : Nat) "GraftTrees$Machine" "out" "[B") ∈ lw_all := lw_g (lw_at lw_m4 46 rfl) rfl
theorem q994 : (Jvm.Cond.fieldLink "GraftTrees$Machine" (63 : Nat) "GraftTrees$Machine" "result" "[B") ∈ lw_all := lw_g (lw_at lw_m4 48 rfl) rfl
theorem q996 : (Jvm.Cond.fieldLink "GraftTrees$Machine" (145 : Nat) "GraftTrees$Machine" "said" "I") ∈ lw_all := lw_g (lw_at lw_m4 50 rfl) rfl
theorem q998 : (Jvm.Cond.fieldLink "GraftTrees$Machine" (151 : Nat) "GraftTrees$Machine" "results" "I") ∈ lw_all := lw_g (lw_at lw_m4 52 rfl) rfl
theorem q1000 : (Jvm.Cond.fieldLink "GraftTrees$Machine" (109 : Nat) "GraftTrees$Machine" "changes" "I") ∈ lw_all := lw_g (lw_at lw_m4 54 rfl) rfl
theorem q1002 : (Jvm.Cond.fieldLink "GraftTrees$Machine" (112 : Nat) "GraftTrees$Machine" "entered" "I") ∈ lw_all := lw_g (lw_at lw_m4 56 rfl) rfl
theorem q1004 : (Jvm.Cond.fieldLink "GraftTrees$Machine" (115 : Nat) "GraftTrees$Machine" "exits" "I") ∈ lw_all := lw_g (lw_at lw_m4 58 rfl) rfl
theorem q1006 : (Jvm.Cond.fieldLink "GraftTrees$Machine" (118 : Nat) "GraftTrees$Machine" "falls" "I") ∈ lw_all := lw_g (lw_at lw_m4 60 rfl) rfl
theorem q1008 : (Jvm.Cond.fieldLink "GraftTrees$Machine" (121 : Nat) "GraftTrees$Machine" "moves" "I") ∈ lw_all := lw_g (lw_at lw_m4 62 rfl) rfl
theorem q1010 : (Jvm.Cond.fieldLink "GraftTrees$Machine" (124 : Nat) "GraftTrees$Machine" "calls" "I") ∈ lw_all := lw_g (lw_at lw_m4 64 rfl) rfl
theorem q1012 : (Jvm.Cond.fieldLink "GraftTrees$Machine" (127 : Nat) "GraftTrees$Machine" "inlined" "I") ∈ lw_all := lw_g (lw_at lw_m4 66 rfl) rfl
theorem q1014 : (Jvm.Cond.fieldLink "GraftTrees$Machine" (69 : Nat) "GraftTrees$Machine" "a" "LGraftTrees$Whole;") ∈ lw_all := lw_g (lw_at lw_m4 68 rfl) rfl
theorem q1015 : (Jvm.Cond.fieldLink "GraftTrees$Machine" (73 : Nat) "GraftTrees$Machine" "b" "LGraftTrees$Whole;") ∈ lw_all := lw_g (lw_at lw_m4 69 rfl) rfl
theorem q1016 : (Jvm.Cond.fieldLink "GraftTrees$Machine" (76 : Nat) "GraftTrees$Machine" "c" "LGraftTrees$Whole;") ∈ lw_all := lw_g (lw_at lw_m4 70 rfl) rfl
theorem q1017 : (Jvm.Cond.fieldLink "GraftTrees$Machine" (79 : Nat) "GraftTrees$Machine" "rest" "LGraftTrees$Whole;") ∈ lw_all := lw_g (lw_at lw_m4 71 rfl) rfl
theorem q1018 : (Jvm.Cond.fieldLink "GraftTrees$Machine" (481 : Nat) "GraftTrees$Machine" "fit" "J") ∈ lw_all := lw_g (lw_at lw_m4 72 rfl) rfl
theorem q1019 : (Jvm.Cond.laysFinal "GraftTrees$Machine" "GraftTrees$Machine" "heap" "LGraftTrees$Heap;") ∈ lw_all := lw_g (lw_at lw_m4 73 rfl) rfl
theorem q1020 : (Jvm.Cond.soleField "GraftTrees$Machine" "heap") ∈ lw_all := lw_g (lw_at lw_m4 74 rfl) rfl
theorem q1021 : (Jvm.Cond.laysFinal "GraftTrees$Machine" "GraftTrees$Machine" "forest" "LGraftTrees$Forest;") ∈ lw_all := lw_g (lw_at lw_m4 75 rfl) rfl
theorem q1022 : (Jvm.Cond.soleField "GraftTrees$Machine" "forest") ∈ lw_all := lw_g (lw_at lw_m4 76 rfl) rfl
theorem q1023 : (Jvm.Cond.laysFinal "GraftTrees$Machine" "GraftTrees$Machine" "shapes" "LGraftTrees$Shapes;") ∈ lw_all := lw_g (lw_at lw_m4 77 rfl) rfl
theorem q1024 : (Jvm.Cond.soleField "GraftTrees$Machine" "shapes") ∈ lw_all := lw_g (lw_at lw_m4 78 rfl) rfl
theorem q1025 : (Jvm.Cond.laysFinal "GraftTrees$Machine" "GraftTrees$Machine" "codes" "LGraftTrees$Codes;") ∈ lw_all := lw_g (lw_at lw_m4 79 rfl) rfl
theorem q1026 : (Jvm.Cond.soleField "GraftTrees$Machine" "codes") ∈ lw_all := lw_g (lw_at lw_m4 80 rfl) rfl
theorem q1027 : (Jvm.Cond.laysFinal "GraftTrees$Machine" "GraftTrees$Machine" "parser" "LGraftTrees$Parser;") ∈ lw_all := lw_g (lw_at lw_m4 81 rfl) rfl
theorem q1028 : (Jvm.Cond.soleField "GraftTrees$Machine" "parser") ∈ lw_all := lw_g (lw_at lw_m4 82 rfl) rfl
theorem q1029 : (Jvm.Cond.laysFinal "GraftTrees$Machine" "GraftTrees$Machine" "threshold" "I") ∈ lw_all := lw_g (lw_at lw_m4 83 rfl) rfl
theorem q1030 : (Jvm.Cond.soleField "GraftTrees$Machine" "threshold") ∈ lw_all := lw_g (lw_at lw_m4 84 rfl) rfl
theorem q1031 : (Jvm.Cond.laysFinal "GraftTrees$Machine" "GraftTrees$Machine" "kinds" "[I") ∈ lw_all := lw_g (lw_at lw_m4 85 rfl) rfl
theorem q1032 : (Jvm.Cond.soleField "GraftTrees$Machine" "kinds") ∈ lw_all := lw_g (lw_at lw_m4 86 rfl) rfl
theorem q1033 : (Jvm.Cond.laysFinal "GraftTrees$Machine" "GraftTrees$Machine" "nums" "[J") ∈ lw_all := lw_g (lw_at lw_m4 87 rfl) rfl
theorem q1034 : (Jvm.Cond.soleField "GraftTrees$Machine" "nums") ∈ lw_all := lw_g (lw_at lw_m4 88 rfl) rfl
theorem q1035 : (Jvm.Cond.lays "GraftTrees$Machine" "GraftTrees$Machine" "top" "I") ∈ lw_all := lw_g (lw_at lw_m4 89 rfl) rfl
theorem q1036 : (Jvm.Cond.soleField "GraftTrees$Machine" "top") ∈ lw_all := lw_g (lw_at lw_m4 90 rfl) rfl
theorem q1037 : (Jvm.Cond.laysFinal "GraftTrees$Machine" "GraftTrees$Machine" "rootOf" "[I") ∈ lw_all := lw_g (lw_at lw_m4 91 rfl) rfl
theorem q1038 : (Jvm.Cond.soleField "GraftTrees$Machine" "rootOf") ∈ lw_all := lw_g (lw_at lw_m4 92 rfl) rfl
theorem q1039 : (Jvm.Cond.laysFinal "GraftTrees$Machine" "GraftTrees$Machine" "pcOf" "[I") ∈ lw_all := lw_g (lw_at lw_m4 93 rfl) rfl
theorem q1040 : (Jvm.Cond.soleField "GraftTrees$Machine" "pcOf") ∈ lw_all := lw_g (lw_at lw_m4 94 rfl) rfl
theorem q1041 : (Jvm.Cond.laysFinal "GraftTrees$Machine" "GraftTrees$Machine" "baseOf" "[I") ∈ lw_all := lw_g (lw_at lw_m4 95 rfl) rfl
theorem q1042 : (Jvm.Cond.soleField "GraftTrees$Machine" "baseOf") ∈ lw_all := lw_g (lw_at lw_m4 96 rfl) rfl
theorem q1043 : (Jvm.Cond.laysFinal "GraftTrees$Machine" "GraftTrees$Machine" "codeOf" "[I") ∈ lw_all := lw_g (lw_at lw_m4 97 rfl) rfl
theorem q1044 : (Jvm.Cond.soleField "GraftTrees$Machine" "codeOf") ∈ lw_all := lw_g (lw_at lw_m4 98 rfl) rfl
theorem q1045 : (Jvm.Cond.laysFinal "GraftTrees$Machine" "GraftTrees$Machine" "unitOf" "[I") ∈ lw_all := lw_g (lw_at lw_m4 99 rfl) rfl
theorem q1046 : (Jvm.Cond.soleField "GraftTrees$Machine" "unitOf") ∈ lw_all := lw_g (lw_at lw_m4 100 rfl) rfl
theorem q1047 : (Jvm.Cond.laysFinal "GraftTrees$Machine" "GraftTrees$Machine" "frameOf" "[I") ∈ lw_all := lw_g (lw_at lw_m4 101 rfl) rfl
theorem q1048 : (Jvm.Cond.soleField "GraftTrees$Machine" "frameOf") ∈ lw_all := lw_g (lw_at lw_m4 102 rfl) rfl
theorem q1049 : (Jvm.Cond.laysFinal "GraftTrees$Machine" "GraftTrees$Machine" "isInlined" "[Z") ∈ lw_all := lw_g (lw_at lw_m4 103 rfl) rfl
theorem q1050 : (Jvm.Cond.soleField "GraftTrees$Machine" "isInlined") ∈ lw_all := lw_g (lw_at lw_m4 104 rfl) rfl
theorem q1051 : (Jvm.Cond.laysFinal "GraftTrees$Machine" "GraftTrees$Machine" "localKind" "[I") ∈ lw_all := lw_g (lw_at lw_m4 105 rfl) rfl
theorem q1052 : (Jvm.Cond.soleField "GraftTrees$Machine" "localKind") ∈ lw_all := lw_g (lw_at lw_m4 106 rfl) rfl
theorem q1053 : (Jvm.Cond.laysFinal "GraftTrees$Machine" "GraftTrees$Machine" "tag" "[I") ∈ lw_all := lw_g (lw_at lw_m4 107 rfl) rfl
theorem q1054 : (Jvm.Cond.soleField "GraftTrees$Machine" "tag") ∈ lw_all := lw_g (lw_at lw_m4 108 rfl) rfl
theorem q1055 : (Jvm.Cond.laysFinal "GraftTrees$Machine" "GraftTrees$Machine" "local" "[J") ∈ lw_all := lw_g (lw_at lw_m4 109 rfl) rfl
theorem q1056 : (Jvm.Cond.soleField "GraftTrees$Machine" "local") ∈ lw_all := lw_g (lw_at lw_m4 110 rfl) rfl
theorem q1057 : (Jvm.Cond.lays "GraftTrees$Machine" "GraftTrees$Machine" "many" "I") ∈ lw_all := lw_g (lw_at lw_m4 111 rfl) rfl
theorem q1058 : (Jvm.Cond.soleField "GraftTrees$Machine" "many") ∈ lw_all := lw_g (lw_at lw_m4 112 rfl) rfl
theorem q1059 : (Jvm.Cond.lays "GraftTrees$Machine" "GraftTrees$Machine" "most" "I") ∈ lw_all := lw_g (lw_at lw_m4 113 rfl) rfl
theorem q1060 : (Jvm.Cond.soleField "GraftTrees$Machine" "most") ∈ lw_all := lw_g (lw_at lw_m4 114 rfl) rfl
theorem q1061 : (Jvm.Cond.lays "GraftTrees$Machine" "GraftTrees$Machine" "cur" "I") ∈ lw_all := lw_g (lw_at lw_m4 115 rfl) rfl
theorem q1062 : (Jvm.Cond.soleField "GraftTrees$Machine" "cur") ∈ lw_all := lw_g (lw_at lw_m4 116 rfl) rfl
theorem q1063 : (Jvm.Cond.lays "GraftTrees$Machine" "GraftTrees$Machine" "pc" "I") ∈ lw_all := lw_g (lw_at lw_m4 117 rfl) rfl
theorem q1064 : (Jvm.Cond.soleField "GraftTrees$Machine" "pc") ∈ lw_all := lw_g (lw_at lw_m4 118 rfl) rfl
theorem q1065 : (Jvm.Cond.lays "GraftTrees$Machine" "GraftTrees$Machine" "state" "I") ∈ lw_all := lw_g (lw_at lw_m4 119 rfl) rfl
theorem q1066 : (Jvm.Cond.soleField "GraftTrees$Machine" "state") ∈ lw_all := lw_g (lw_at lw_m4 120 rfl) rfl
theorem q1067 : (Jvm.Cond.lays "GraftTrees$Machine" "GraftTrees$Machine" "steps" "I") ∈ lw_all := lw_g (lw_at lw_m4 121 rfl) rfl
theorem q1068 : (Jvm.Cond.soleField "GraftTrees$Machine" "steps") ∈ lw_all := lw_g (lw_at lw_m4 122 rfl) rfl
theorem q1069 : (Jvm.Cond.lays "GraftTrees$Machine" "GraftTrees$Machine" "error" "I") ∈ lw_all := lw_g (lw_at lw_m4 123 rfl) rfl
theorem q1070 : (Jvm.Cond.soleField "GraftTrees$Machine" "error") ∈ lw_all := lw_g (lw_at lw_m4 124 rfl) rfl
theorem q1071 : (Jvm.Cond.lays "GraftTrees$Machine" "GraftTrees$Machine" "errorRoot" "I") ∈ lw_all := lw_g (lw_at lw_m4 125 rfl) rfl
theorem q1072 : (Jvm.Cond.soleField "GraftTrees$Machine" "errorRoot") ∈ lw_all := lw_g (lw_at lw_m4 126 rfl) rfl
theorem q1073 : (Jvm.Cond.lays "GraftTrees$Machine" "GraftTrees$Machine" "errorNode" "I") ∈ lw_all := lw_g (lw_at lw_m4 127 rfl) rfl
theorem q1074 : (Jvm.Cond.soleField "GraftTrees$Machine" "errorNode") ∈ lw_all := lw_g (lw_at lw_m4 128 rfl) rfl
theorem q1075 : (Jvm.Cond.laysFinal "GraftTrees$Machine" "GraftTrees$Machine" "shapeOf" "[I") ∈ lw_all := lw_g (lw_at lw_m4 129 rfl) rfl
theorem q1076 : (Jvm.Cond.soleField "GraftTrees$Machine" "shapeOf") ∈ lw_all := lw_g (lw_at lw_m4 130 rfl) rfl
theorem q1077 : (Jvm.Cond.laysFinal "GraftTrees$Machine" "GraftTrees$Machine" "fieldKind" "[I") ∈ lw_all := lw_g (lw_at lw_m4 131 rfl) rfl
theorem q1078 : (Jvm.Cond.soleField "GraftTrees$Machine" "fieldKind") ∈ lw_all := lw_g (lw_at lw_m4 132 rfl) rfl
theorem q1079 : (Jvm.Cond.laysFinal "GraftTrees$Machine" "GraftTrees$Machine" "field" "[J") ∈ lw_all := lw_g (lw_at lw_m4 133 rfl) rfl
theorem q1080 : (Jvm.Cond.soleField "GraftTrees$Machine" "field") ∈ lw_all := lw_g (lw_at lw_m4 134 rfl) rfl
theorem q1081 : (Jvm.Cond.lays "GraftTrees$Machine" "GraftTrees$Machine" "objects" "I") ∈ lw_all := lw_g (lw_at lw_m4 135 rfl) rfl
theorem q1082 : (Jvm.Cond.soleField "GraftTrees$Machine" "objects") ∈ lw_all := lw_g (lw_at lw_m4 136 rfl) rfl
theorem q1083 : (Jvm.Cond.laysFinal "GraftTrees$Machine" "GraftTrees$Machine" "out" "[B") ∈ lw_all := lw_g (lw_at lw_m4 137 rfl) rfl
theorem q1084 : (Jvm.Cond.soleField "GraftTrees$Machine" "out") ∈ lw_all := lw_g (lw_at lw_m4 138 rfl) rfl
theorem q1085 : (Jvm.Cond.laysFinal "GraftTrees$Machine" "GraftTrees$Machine" "result" "[B") ∈ lw_all := lw_g (lw_at lw_m4 139 rfl) rfl
theorem q1086 : (Jvm.Cond.soleField "GraftTrees$Machine" "result") ∈ lw_all := lw_g (lw_at lw_m4 140 rfl) rfl
theorem q1087 : (Jvm.Cond.lays "GraftTrees$Machine" "GraftTrees$Machine" "said" "I") ∈ lw_all := lw_g (lw_at lw_m4 141 rfl) rfl
theorem q1088 : (Jvm.Cond.soleField "GraftTrees$Machine" "said") ∈ lw_all := lw_g (lw_at lw_m4 142 rfl) rfl
theorem q1089 : (Jvm.Cond.lays "GraftTrees$Machine" "GraftTrees$Machine" "results" "I") ∈ lw_all := lw_g (lw_at lw_m4 143 rfl) rfl
theorem q1090 : (Jvm.Cond.soleField "GraftTrees$Machine" "results") ∈ lw_all := lw_g (lw_at lw_m4 144 rfl) rfl
theorem q1091 : (Jvm.Cond.lays "GraftTrees$Machine" "GraftTrees$Machine" "changes" "I") ∈ lw_all := lw_g (lw_at lw_m4 145 rfl) rfl
theorem q1092 : (Jvm.Cond.soleField "GraftTrees$Machine" "changes") ∈ lw_all := lw_g (lw_at lw_m4 146 rfl) rfl
theorem q1093 : (Jvm.Cond.lays "GraftTrees$Machine" "GraftTrees$Machine" "entered" "I") ∈ lw_all := lw_g (lw_at lw_m4 147 rfl) rfl
theorem q1094 : (Jvm.Cond.soleField "GraftTrees$Machine" "entered") ∈ lw_all := lw_g (lw_at lw_m4 148 rfl) rfl
theorem q1095 : (Jvm.Cond.lays "GraftTrees$Machine" "GraftTrees$Machine" "exits" "I") ∈ lw_all := lw_g (lw_at lw_m4 149 rfl) rfl
theorem q1096 : (Jvm.Cond.soleField "GraftTrees$Machine" "exits") ∈ lw_all := lw_g (lw_at lw_m4 150 rfl) rfl
theorem q1097 : (Jvm.Cond.lays "GraftTrees$Machine" "GraftTrees$Machine" "falls" "I") ∈ lw_all := lw_g (lw_at lw_m4 151 rfl) rfl
theorem q1098 : (Jvm.Cond.soleField "GraftTrees$Machine" "falls") ∈ lw_all := lw_g (lw_at lw_m4 152 rfl) rfl
theorem q1099 : (Jvm.Cond.lays "GraftTrees$Machine" "GraftTrees$Machine" "moves" "I") ∈ lw_all := lw_g (lw_at lw_m4 153 rfl) rfl
theorem q1100 : (Jvm.Cond.soleField "GraftTrees$Machine" "moves") ∈ lw_all := lw_g (lw_at lw_m4 154 rfl) rfl
theorem q1101 : (Jvm.Cond.lays "GraftTrees$Machine" "GraftTrees$Machine" "calls" "I") ∈ lw_all := lw_g (lw_at lw_m4 155 rfl) rfl
theorem q1102 : (Jvm.Cond.soleField "GraftTrees$Machine" "calls") ∈ lw_all := lw_g (lw_at lw_m4 156 rfl) rfl
theorem q1103 : (Jvm.Cond.lays "GraftTrees$Machine" "GraftTrees$Machine" "inlined" "I") ∈ lw_all := lw_g (lw_at lw_m4 157 rfl) rfl
theorem q1104 : (Jvm.Cond.soleField "GraftTrees$Machine" "inlined") ∈ lw_all := lw_g (lw_at lw_m4 158 rfl) rfl
theorem q1105 : (Jvm.Cond.laysFinal "GraftTrees$Machine" "GraftTrees$Machine" "a" "LGraftTrees$Whole;") ∈ lw_all := lw_g (lw_at lw_m4 159 rfl) rfl
theorem q1106 : (Jvm.Cond.soleField "GraftTrees$Machine" "a") ∈ lw_all := lw_g (lw_at lw_m4 160 rfl) rfl
theorem q1107 : (Jvm.Cond.laysFinal "GraftTrees$Machine" "GraftTrees$Machine" "b" "LGraftTrees$Whole;") ∈ lw_all := lw_g (lw_at lw_m4 161 rfl) rfl
theorem q1108 : (Jvm.Cond.soleField "GraftTrees$Machine" "b") ∈ lw_all := lw_g (lw_at lw_m4 162 rfl) rfl
theorem q1109 : (Jvm.Cond.laysFinal "GraftTrees$Machine" "GraftTrees$Machine" "c" "LGraftTrees$Whole;") ∈ lw_all := lw_g (lw_at lw_m4 163 rfl) rfl
theorem q1110 : (Jvm.Cond.soleField "GraftTrees$Machine" "c") ∈ lw_all := lw_g (lw_at lw_m4 164 rfl) rfl
theorem q1111 : (Jvm.Cond.laysFinal "GraftTrees$Machine" "GraftTrees$Machine" "rest" "LGraftTrees$Whole;") ∈ lw_all := lw_g (lw_at lw_m4 165 rfl) rfl
theorem q1112 : (Jvm.Cond.soleField "GraftTrees$Machine" "rest") ∈ lw_all := lw_g (lw_at lw_m4 166 rfl) rfl
theorem q1113 : (Jvm.Cond.lays "GraftTrees$Machine" "GraftTrees$Machine" "fit" "J") ∈ lw_all := lw_g (lw_at lw_m4 167 rfl) rfl
theorem q1114 : (Jvm.Cond.soleField "GraftTrees$Machine" "fit") ∈ lw_all := lw_g (lw_at lw_m4 168 rfl) rfl
theorem q1115 : (Jvm.Cond.superclass "GraftTrees$Machine" "java/lang/Object") ∈ lw_all := lw_g (lw_at lw_m4 169 rfl) rfl
theorem q1117 : (Jvm.Cond.instanceMethod ({ cls := "GraftTrees$Machine", name := "clear", desc := "()V" } : Jvm.MethodName)) ∈ lw_all := lw_g (lw_at lw_m4 171 rfl) rfl
theorem q1118 : (Jvm.Cond.selects "GraftTrees$Machine" ({ cls := "GraftTrees$Machine", name := "clear", desc := "()V" } : Jvm.MethodName) ({ cls := "GraftTrees$Machine", name := "clear", desc := "()V" } : Jvm.MethodName)) ∈ lw_all := lw_g (lw_at lw_m4 172 rfl) rfl
theorem q1119 : (Jvm.Cond.code ({ cls := "GraftTrees$Machine", name := "clear", desc := "()V" } : Jvm.MethodName) prog_5_method_2_code (1 : Nat) (Option.none : Option Jvm.ClassFile.FieldType)) ∈ lw_all := lw_g (lw_at lw_m4 173 rfl) rfl
theorem q1120 : (Jvm.Cond.methodLink "GraftTrees$Machine" (106 : Nat) ({ cls := "GraftTrees$Machine", name := "none", desc := "()V" } : Jvm.MethodName)) ∈ lw_all := lw_g (lw_at lw_m4 174 rfl) rfl
theorem q1121 : (Jvm.Cond.instanceMethod ({ cls := "GraftTrees$Machine", name := "none", desc := "()V" } : Jvm.MethodName)) ∈ lw_all := lw_g (lw_at lw_m4 175 rfl) rfl
theorem q1122 : (Jvm.Cond.selects "GraftTrees$Machine" ({ cls := "GraftTrees$Machine", name := "none", desc := "()V" } : Jvm.MethodName) ({ cls := "GraftTrees$Machine", name := "none", desc := "()V" } : Jvm.MethodName)) ∈ lw_all := lw_g (lw_at lw_m4 176 rfl) rfl
theorem q1123 : (Jvm.Cond.code ({ cls := "GraftTrees$Machine", name := "none", desc := "()V" } : Jvm.MethodName) prog_5_method_3_code (1 : Nat) (Option.none : Option Jvm.ClassFile.FieldType)) ∈ lw_all := lw_g (lw_at lw_m4 177 rfl) rfl
theorem q1124 : (Jvm.Cond.methodLink "GraftTrees$Machine" (154 : Nat) ({ cls := "GraftTrees$Heap", name := "begin", desc := "()V" } : Jvm.MethodName)) ∈ lw_all := lw_g (lw_at lw_m4 178 rfl) rfl
theorem q1550 : (Jvm.Cond.instanceMethod ({ cls := "GraftTrees$Machine", name := "start", desc := "(IJJ)V" } : Jvm.MethodName)) ∈ lw_all := lw_g (lw_at lw_m6 124 rfl) rfl
theorem q1551 : (Jvm.Cond.selects "GraftTrees$Machine" ({ cls := "GraftTrees$Machine", name := "start", desc := "(IJJ)V" } : Jvm.MethodName) ({ cls := "GraftTrees$Machine", name := "start", desc := "(IJJ)V" } : Jvm.MethodName)) ∈ lw_all := lw_g (lw_at lw_m6 125 rfl) rfl
theorem q1552 : (Jvm.Cond.code ({ cls := "GraftTrees$Machine", name := "start", desc := "(IJJ)V" } : Jvm.MethodName) prog_5_method_4_code (6 : Nat) (Option.none : Option Jvm.ClassFile.FieldType)) ∈ lw_all := lw_g (lw_at lw_m6 126 rfl) rfl
theorem q1553 : (Jvm.Cond.methodLink "GraftTrees$Machine" (167 : Nat) ({ cls := "GraftTrees$Machine", name := "push", desc := "(IJ)V" } : Jvm.MethodName)) ∈ lw_all := lw_g (lw_at lw_m6 127 rfl) rfl
theorem q1554 : (Jvm.Cond.privateMethod ({ cls := "GraftTrees$Machine", name := "push", desc := "(IJ)V" } : Jvm.MethodName)) ∈ lw_tbl := lw_at lw_m6 128 rfl
theorem q1555 : (Jvm.Cond.instanceMethod ({ cls := "GraftTrees$Machine", name := "push", desc := "(IJ)V" } : Jvm.MethodName)) ∈ lw_all := lw_g (lw_at lw_m6 129 rfl) rfl
theorem q1556 : (Jvm.Cond.code ({ cls := "GraftTrees$Machine", name := "push", desc := "(IJ)V" } : Jvm.MethodName) prog_5_method_7_code (4 : Nat) (Option.none : Option Jvm.ClassFile.FieldType)) ∈ lw_all := lw_g (lw_at lw_m6 130 rfl) rfl
theorem q1557 : (Jvm.Cond.methodLink "GraftTrees$Machine" (171 : Nat) ({ cls := "GraftTrees$Codes", name := "more", desc := "(I)I" } : Jvm.MethodName)) ∈ lw_all := lw_g (lw_at lw_m6 131 rfl) rfl
theorem q1562 : (Jvm.Cond.methodLink "GraftTrees$Machine" (177 : Nat) ({ cls := "GraftTrees$Machine", name := "activate", desc := "(IIII)V" } : Jvm.MethodName)) ∈ lw_all := lw_g (lw_at lw_m6 136 rfl) rfl
theorem q1563 : (Jvm.Cond.privateMethod ({ cls := "GraftTrees$Machine", name := "activate", desc := "(IIII)V" } : Jvm.MethodName)) ∈ lw_tbl := lw_at lw_m6 137 rfl
theorem q1564 : (Jvm.Cond.instanceMethod ({ cls := "GraftTrees$Machine", name := "activate", desc := "(IIII)V" } : Jvm.MethodName)) ∈ lw_all := lw_g (lw_at lw_m6 138 rfl) rfl
theorem q1565 : (Jvm.Cond.code ({ cls := "GraftTrees$Machine", name := "activate", desc := "(IIII)V" } : Jvm.MethodName) prog_5_method_24_code (8 : Nat) (Option.none : Option Jvm.ClassFile.FieldType)) ∈ lw_all := lw_g (lw_at lw_m6 139 rfl) rfl
theorem q1566 : (Jvm.Cond.methodLink "GraftTrees$Machine" (348 : Nat) ({ cls := "java/lang/Math", name := "max", desc := "(II)I" } : Jvm.MethodName)) ∈ lw_all := lw_g (lw_at lw_m6 140 rfl) rfl
theorem q1567 : (Jvm.Cond.methodLink "GraftTrees$Machine" (298 : Nat) ({ cls := "GraftTrees$Codes", name := "start", desc := "(II)I" } : Jvm.MethodName)) ∈ lw_all := lw_g (lw_at lw_m6 141 rfl) rfl
theorem q1571 : (Jvm.Cond.methodLink "GraftTrees$Machine" (287 : Nat) ({ cls := "GraftTrees$Codes", name := "heats", desc := "(II)V" } : Jvm.MethodName)) ∈ lw_all := lw_g (lw_at lw_m6 145 rfl) rfl
theorem q1584 : (Jvm.Cond.methodLink "GraftTrees$Machine" (293 : Nat) ({ cls := "GraftTrees$Machine", name := "enters", desc := "(I)V" } : Jvm.MethodName)) ∈ lw_all := lw_g (lw_at lw_m6 158 rfl) rfl
theorem q1585 : (Jvm.Cond.privateMethod ({ cls := "GraftTrees$Machine", name := "enters", desc := "(I)V" } : Jvm.MethodName)) ∈ lw_tbl := lw_at lw_m6 159 rfl
theorem q1586 : (Jvm.Cond.instanceMethod ({ cls := "GraftTrees$Machine", name := "enters", desc := "(I)V" } : Jvm.MethodName)) ∈ lw_all := lw_g (lw_at lw_m6 160 rfl) rfl
theorem q1587 : (Jvm.Cond.code ({ cls := "GraftTrees$Machine", name := "enters", desc := "(I)V" } : Jvm.MethodName) prog_5_method_14_code (2 : Nat) (Option.none : Option Jvm.ClassFile.FieldType)) ∈ lw_all := lw_g (lw_at lw_m6 161 rfl) rfl
theorem q1588 : (Jvm.Cond.methodLink "GraftTrees$Machine" (228 : Nat) ({ cls := "GraftTrees$Machine", name := "write", desc := "(IIJ)V" } : Jvm.MethodName)) ∈ lw_all := lw_g (lw_at lw_m6 162 rfl) rfl
theorem q1589 : (Jvm.Cond.privateMethod ({ cls := "GraftTrees$Machine", name := "write", desc := "(IIJ)V" } : Jvm.MethodName)) ∈ lw_tbl := lw_at lw_m6 163 rfl
theorem q1590 : (Jvm.Cond.instanceMethod ({ cls := "GraftTrees$Machine", name := "write", desc := "(IIJ)V" } : Jvm.MethodName)) ∈ lw_all := lw_g (lw_at lw_m6 164 rfl) rfl
theorem q1591 : (Jvm.Cond.code ({ cls := "GraftTrees$Machine", name := "write", desc := "(IIJ)V" } : Jvm.MethodName) prog_5_method_20_code (10 : Nat) (Option.none : Option Jvm.ClassFile.FieldType)) ∈ lw_all := lw_g (lw_at lw_m6 165 rfl) rfl
theorem q1592 : (Jvm.Cond.methodLink "GraftTrees$Machine" (305 : Nat) ({ cls := "GraftTrees$Machine", name := "changes", desc := "(II)V" } : Jvm.MethodName)) ∈ lw_all := lw_g (lw_at lw_m6 166 rfl) rfl
theorem q1593 : (Jvm.Cond.privateMethod ({ cls := "GraftTrees$Machine", name := "changes", desc := "(II)V" } : Jvm.MethodName)) ∈ lw_tbl := lw_at lw_m6 167 rfl
theorem q1594 : (Jvm.Cond.instanceMethod ({ cls := "GraftTrees$Machine", name := "changes", desc := "(II)V" } : Jvm.MethodName)) ∈ lw_all := lw_g (lw_at lw_m6 168 rfl) rfl
theorem q1595 : (Jvm.Cond.code ({ cls := "GraftTrees$Machine", name := "changes", desc := "(II)V" } : Jvm.MethodName) prog_5_method_10_code (3 : Nat) (Option.none : Option Jvm.ClassFile.FieldType)) ∈ lw_all := lw_g (lw_at lw_m6 169 rfl) rfl
theorem q1596 : (Jvm.Cond.methodLink "GraftTrees$Machine" (265 : Nat) ({ cls := "GraftTrees$Machine", name := "changed", desc := "(I)V" } : Jvm.MethodName)) ∈ lw_all := lw_g (lw_at lw_m6 170 rfl) rfl
theorem q1597 : (Jvm.Cond.privateMethod ({ cls := "GraftTrees$Machine", name := "changed", desc := "(I)V" } : Jvm.MethodName)) ∈ lw_tbl := lw_at lw_m6 171 rfl
theorem q1598 : (Jvm.Cond.instanceMethod ({ cls := "GraftTrees$Machine", name := "changed", desc := "(I)V" } : Jvm.MethodName)) ∈ lw_all := lw_g (lw_at lw_m6 172 rfl) rfl
theorem q1599 : (Jvm.Cond.code ({ cls := "GraftTrees$Machine", name := "changed", desc := "(I)V" } : Jvm.MethodName) prog_5_method_11_code (2 : Nat) (Option.none : Option Jvm.ClassFile.FieldType)) ∈ lw_all := lw_g (lw_at lw_m6 173 rfl) rfl
theorem q1600 : (Jvm.Cond.methodLink "GraftTrees$Machine" (270 : Nat) ({ cls := "GraftTrees$Machine", name := "leaves", desc := "()V" } : Jvm.MethodName)) ∈ lw_all := lw_g (lw_at lw_m6 174 rfl) rfl
theorem q1601 : (Jvm.Cond.privateMethod ({ cls := "GraftTrees$Machine", name := "leaves", desc := "()V" } : Jvm.MethodName)) ∈ lw_tbl := lw_at lw_m6 175 rfl
theorem q1602 : (Jvm.Cond.instanceMethod ({ cls := "GraftTrees$Machine", name := "leaves", desc := "()V" } : Jvm.MethodName)) ∈ lw_all := lw_g (lw_at lw_m6 176 rfl) rfl
theorem q1603 : (Jvm.Cond.code ({ cls := "GraftTrees$Machine", name := "leaves", desc := "()V" } : Jvm.MethodName) prog_5_method_12_code (3 : Nat) (Option.none : Option Jvm.ClassFile.FieldType)) ∈ lw_all := lw_g (lw_at lw_m6 177 rfl) rfl
theorem q1604 : (Jvm.Cond.constant "GraftTrees$Machine" (279 : Nat) (64000 : Int32)) ∈ lw_all := lw_g (lw_at lw_m6 178 rfl) rfl
theorem q1605 : (Jvm.Cond.methodLink "GraftTrees$Machine" (275 : Nat) ({ cls := "GraftTrees$Codes", name := "changed", desc := "(I)V" } : Jvm.MethodName)) ∈ lw_all := lw_g (lw_at lw_m6 179 rfl) rfl
theorem q1613 : (Jvm.Cond.methodLink "GraftTrees$Machine" (181 : Nat) ({ cls := "GraftTrees$Machine", name := "go", desc := "(I)I" } : Jvm.MethodName)) ∈ lw_all := lw_g (lw_at lw_m6 187 rfl) rfl
theorem q1614 : (Jvm.Cond.instanceMethod ({ cls := "GraftTrees$Machine", name := "go", desc := "(I)I" } : Jvm.MethodName)) ∈ lw_all := lw_g (lw_at lw_m6 188 rfl) rfl
theorem q1615 : (Jvm.Cond.selects "GraftTrees$Machine" ({ cls := "GraftTrees$Machine", name := "go", desc := "(I)I" } : Jvm.MethodName) ({ cls := "GraftTrees$Machine", name := "go", desc := "(I)I" } : Jvm.MethodName)) ∈ lw_all := lw_g (lw_at lw_m6 189 rfl) rfl
theorem q1616 : (Jvm.Cond.code ({ cls := "GraftTrees$Machine", name := "go", desc := "(I)I" } : Jvm.MethodName) prog_5_method_5_code (4 : Nat) (Option.some Jvm.ClassFile.FieldType.int)) ∈ lw_all := lw_g (lw_at lw_m6 190 rfl) rfl
theorem q1617 : (Jvm.Cond.methodLink "GraftTrees$Machine" (193 : Nat) ({ cls := "GraftTrees$Machine", name := "fails", desc := "(II)Z" } : Jvm.MethodName)) ∈ lw_all := lw_g (lw_at lw_m6 191 rfl) rfl
theorem q1618 : (Jvm.Cond.privateMethod ({ cls := "GraftTrees$Machine", name := "fails", desc := "(II)Z" } : Jvm.MethodName)) ∈ lw_tbl := lw_at lw_m6 192 rfl
theorem q1619 : (Jvm.Cond.instanceMethod ({ cls := "GraftTrees$Machine", name := "fails", desc := "(II)Z" } : Jvm.MethodName)) ∈ lw_all := lw_g (lw_at lw_m6 193 rfl) rfl
theorem q1620 : (Jvm.Cond.code ({ cls := "GraftTrees$Machine", name := "fails", desc := "(II)Z" } : Jvm.MethodName) prog_5_method_6_code (3 : Nat) (Option.some Jvm.ClassFile.FieldType.boolean)) ∈ lw_all := lw_g (lw_at lw_m6 194 rfl) rfl
theorem q1621 : (Jvm.Cond.methodLink "GraftTrees$Machine" (197 : Nat) ({ cls := "GraftTrees$Machine", name := "falls", desc := "()V" } : Jvm.MethodName)) ∈ lw_all := lw_g (lw_at lw_m6 195 rfl) rfl
theorem q1622 : (Jvm.Cond.privateMethod ({ cls := "GraftTrees$Machine", name := "falls", desc := "()V" } : Jvm.MethodName)) ∈ lw_tbl := lw_at lw_m6 196 rfl
theorem q1623 : (Jvm.Cond.instanceMethod ({ cls := "GraftTrees$Machine", name := "falls", desc := "()V" } : Jvm.MethodName)) ∈ lw_all := lw_g (lw_at lw_m6 197 rfl) rfl
theorem q1624 : (Jvm.Cond.code ({ cls := "GraftTrees$Machine", name := "falls", desc := "()V" } : Jvm.MethodName) prog_5_method_13_code (1 : Nat) (Option.none : Option Jvm.ClassFile.FieldType)) ∈ lw_all := lw_g (lw_at lw_m6 198 rfl) rfl
theorem q1625 : (Jvm.Cond.methodLink "GraftTrees$Machine" (199 : Nat) ({ cls := "GraftTrees$Machine", name := "again", desc := "()V" } : Jvm.MethodName)) ∈ lw_all := lw_g (lw_at lw_m6 199 rfl) rfl
theorem q1626 : (Jvm.Cond.privateMethod ({ cls := "GraftTrees$Machine", name := "again", desc := "()V" } : Jvm.MethodName)) ∈ lw_tbl := lw_at lw_m6 200 rfl
theorem q1627 : (Jvm.Cond.instanceMethod ({ cls := "GraftTrees$Machine", name := "again", desc := "()V" } : Jvm.MethodName)) ∈ lw_all := lw_g (lw_at lw_m6 201 rfl) rfl
theorem q1628 : (Jvm.Cond.code ({ cls := "GraftTrees$Machine", name := "again", desc := "()V" } : Jvm.MethodName) prog_5_method_15_code (3 : Nat) (Option.none : Option Jvm.ClassFile.FieldType)) ∈ lw_all := lw_g (lw_at lw_m6 202 rfl) rfl
theorem q1629 : (Jvm.Cond.methodLink "GraftTrees$Machine" (202 : Nat) ({ cls := "GraftTrees$Machine", name := "work", desc := "(II)V" } : Jvm.MethodName)) ∈ lw_all := lw_g (lw_at lw_m6 203 rfl) rfl
theorem q1630 : (Jvm.Cond.privateMethod ({ cls := "GraftTrees$Machine", name := "work", desc := "(II)V" } : Jvm.MethodName)) ∈ lw_tbl := lw_at lw_m6 204 rfl
theorem q1631 : (Jvm.Cond.instanceMethod ({ cls := "GraftTrees$Machine", name := "work", desc := "(II)V" } : Jvm.MethodName)) ∈ lw_all := lw_g (lw_at lw_m6 205 rfl) rfl
theorem q1632 : (Jvm.Cond.code ({ cls := "GraftTrees$Machine", name := "work", desc := "(II)V" } : Jvm.MethodName) prog_5_method_8_code (3 : Nat) (Option.none : Option Jvm.ClassFile.FieldType)) ∈ lw_all := lw_g (lw_at lw_m6 206 rfl) rfl
theorem q1633 : (Jvm.Cond.methodLink "GraftTrees$Machine" (224 : Nat) ({ cls := "GraftTrees$Machine", name := "read", desc := "(I)V" } : Jvm.MethodName)) ∈ lw_all := lw_g (lw_at lw_m6 207 rfl) rfl
theorem q1634 : (Jvm.Cond.privateMethod ({ cls := "GraftTrees$Machine", name := "read", desc := "(I)V" } : Jvm.MethodName)) ∈ lw_tbl := lw_at lw_m6 208 rfl
theorem q1635 : (Jvm.Cond.instanceMethod ({ cls := "GraftTrees$Machine", name := "read", desc := "(I)V" } : Jvm.MethodName)) ∈ lw_all := lw_g (lw_at lw_m6 209 rfl) rfl
theorem q1636 : (Jvm.Cond.code ({ cls := "GraftTrees$Machine", name := "read", desc := "(I)V" } : Jvm.MethodName) prog_5_method_19_code (5 : Nat) (Option.none : Option Jvm.ClassFile.FieldType)) ∈ lw_all := lw_g (lw_at lw_m6 210 rfl) rfl
theorem q1637 : (Jvm.Cond.methodLink "GraftTrees$Machine" (232 : Nat) ({ cls := "GraftTrees$Machine", name := "longs", desc := "(I)Z" } : Jvm.MethodName)) ∈ lw_all := lw_g (lw_at lw_m6 211 rfl) rfl
theorem q1638 : (Jvm.Cond.privateMethod ({ cls := "GraftTrees$Machine", name := "longs", desc := "(I)Z" } : Jvm.MethodName)) ∈ lw_tbl := lw_at lw_m6 212 rfl
theorem q1639 : (Jvm.Cond.instanceMethod ({ cls := "GraftTrees$Machine", name := "longs", desc := "(I)Z" } : Jvm.MethodName)) ∈ lw_all := lw_g (lw_at lw_m6 213 rfl) rfl
theorem q1640 : (Jvm.Cond.code ({ cls := "GraftTrees$Machine", name := "longs", desc := "(I)Z" } : Jvm.MethodName) prog_5_method_42_code (7 : Nat) (Option.some Jvm.ClassFile.FieldType.boolean)) ∈ lw_all := lw_g (lw_at lw_m6 214 rfl) rfl
theorem q1641 : (Jvm.Cond.methodLink "GraftTrees$Machine" (495 : Nat) ({ cls := "GraftTrees$Machine", name := "areLongs", desc := "()Z" } : Jvm.MethodName)) ∈ lw_all := lw_g (lw_at lw_m6 215 rfl) rfl
theorem q1642 : (Jvm.Cond.privateMethod ({ cls := "GraftTrees$Machine", name := "areLongs", desc := "()Z" } : Jvm.MethodName)) ∈ lw_tbl := lw_at lw_m6 216 rfl
theorem q1643 : (Jvm.Cond.instanceMethod ({ cls := "GraftTrees$Machine", name := "areLongs", desc := "()Z" } : Jvm.MethodName)) ∈ lw_all := lw_g (lw_at lw_m6 217 rfl) rfl
theorem q1644 : (Jvm.Cond.code ({ cls := "GraftTrees$Machine", name := "areLongs", desc := "()Z" } : Jvm.MethodName) prog_5_method_39_code (1 : Nat) (Option.some Jvm.ClassFile.FieldType.boolean)) ∈ lw_all := lw_g (lw_at lw_m6 218 rfl) rfl
theorem q1645 : (Jvm.Cond.methodLink "GraftTrees$Machine" (499 : Nat) ({ cls := "java/lang/Long", name := "compare", desc := "(JJ)I" } : Jvm.MethodName)) ∈ lw_all := lw_g (lw_at lw_m6 219 rfl) rfl
theorem q1648 : (Jvm.Cond.methodLink "GraftTrees$Machine" (503 : Nat) ({ cls := "GraftTrees$Machine", name := "holds", desc := "(II)Z" } : Jvm.MethodName)) ∈ lw_all := lw_g (lw_at lw_m6 222 rfl) rfl
theorem q1649 : (Jvm.Cond.static ({ cls := "GraftTrees$Machine", name := "holds", desc := "(II)Z" } : Jvm.MethodName)) ∈ lw_all := lw_g (lw_at lw_m6 223 rfl) rfl
theorem q1650 : (Jvm.Cond.code ({ cls := "GraftTrees$Machine", name := "holds", desc := "(II)Z" } : Jvm.MethodName) prog_5_method_41_code (2 : Nat) (Option.some Jvm.ClassFile.FieldType.boolean)) ∈ lw_all := lw_g (lw_at lw_m6 224 rfl) rfl
theorem q1651 : (Jvm.Cond.methodLink "GraftTrees$Machine" (506 : Nat) ({ cls := "GraftTrees$Machine", name := "settle", desc := "(IJ)V" } : Jvm.MethodName)) ∈ lw_all := lw_g (lw_at lw_m6 225 rfl) rfl
theorem q1652 : (Jvm.Cond.privateMethod ({ cls := "GraftTrees$Machine", name := "settle", desc := "(IJ)V" } : Jvm.MethodName)) ∈ lw_tbl := lw_at lw_m6 226 rfl
theorem q1653 : (Jvm.Cond.instanceMethod ({ cls := "GraftTrees$Machine", name := "settle", desc := "(IJ)V" } : Jvm.MethodName)) ∈ lw_all := lw_g (lw_at lw_m6 227 rfl) rfl
theorem q1654 : (Jvm.Cond.code ({ cls := "GraftTrees$Machine", name := "settle", desc := "(IJ)V" } : Jvm.MethodName) prog_5_method_43_code (4 : Nat) (Option.none : Option Jvm.ClassFile.FieldType)) ∈ lw_all := lw_g (lw_at lw_m6 228 rfl) rfl
theorem q1655 : (Jvm.Cond.methodLink "GraftTrees$Machine" (509 : Nat) ({ cls := "GraftTrees$Machine", name := "fits", desc := "(IJJ)Z" } : Jvm.MethodName)) ∈ lw_all := lw_g (lw_at lw_m6 229 rfl) rfl
theorem q1656 : (Jvm.Cond.privateMethod ({ cls := "GraftTrees$Machine", name := "fits", desc := "(IJJ)Z" } : Jvm.MethodName)) ∈ lw_tbl := lw_at lw_m6 230 rfl
theorem q1657 : (Jvm.Cond.instanceMethod ({ cls := "GraftTrees$Machine", name := "fits", desc := "(IJJ)Z" } : Jvm.MethodName)) ∈ lw_all := lw_g (lw_at lw_m6 231 rfl) rfl
theorem q1658 : (Jvm.Cond.code ({ cls := "GraftTrees$Machine", name := "fits", desc := "(IJJ)Z" } : Jvm.MethodName) prog_5_method_40_code (6 : Nat) (Option.some Jvm.ClassFile.FieldType.boolean)) ∈ lw_all := lw_g (lw_at lw_m6 232 rfl) rfl
theorem q1659 : (Jvm.Cond.methodLink "GraftTrees$Machine" (485 : Nat) ({ cls := "java/lang/Math", name := "multiplyHigh", desc := "(JJ)J" } : Jvm.MethodName)) ∈ lw_all := lw_g (lw_at lw_m6 233 rfl) rfl
theorem q1660 : (Jvm.Cond.constantLong "GraftTrees$Machine" (491 : Nat) (-9223372036854775808 : Int64)) ∈ lw_all := lw_g (lw_at lw_m6 234 rfl) rfl
theorem q1661 : (Jvm.Cond.constantLong "GraftTrees$Machine" (493 : Nat) (-1 : Int64)) ∈ lw_all := lw_g (lw_at lw_m6 235 rfl) rfl
theorem q1662 : (Jvm.Cond.methodLink "GraftTrees$Machine" (236 : Nat) ({ cls := "GraftTrees$Machine", name := "two", desc := "(I)Z" } : Jvm.MethodName)) ∈ lw_all := lw_g (lw_at lw_m6 236 rfl) rfl
theorem q1663 : (Jvm.Cond.privateMethod ({ cls := "GraftTrees$Machine", name := "two", desc := "(I)Z" } : Jvm.MethodName)) ∈ lw_tbl := lw_at lw_m6 237 rfl
theorem q1664 : (Jvm.Cond.instanceMethod ({ cls := "GraftTrees$Machine", name := "two", desc := "(I)Z" } : Jvm.MethodName)) ∈ lw_all := lw_g (lw_at lw_m6 238 rfl) rfl
theorem q1665 : (Jvm.Cond.code ({ cls := "GraftTrees$Machine", name := "two", desc := "(I)Z" } : Jvm.MethodName) prog_5_method_45_code (5 : Nat) (Option.some Jvm.ClassFile.FieldType.boolean)) ∈ lw_all := lw_g (lw_at lw_m6 239 rfl) rfl
theorem q1666 : (Jvm.Cond.methodLink "GraftTrees$Machine" (513 : Nat) ({ cls := "GraftTrees$Machine", name := "alike", desc := "(II)Z" } : Jvm.MethodName)) ∈ lw_all := lw_g (lw_at lw_m7 0 rfl) rfl
theorem q1667 : (Jvm.Cond.privateMethod ({ cls := "GraftTrees$Machine", name := "alike", desc := "(II)Z" } : Jvm.MethodName)) ∈ lw_tbl := lw_at lw_m7 1 rfl
theorem q1668 : (Jvm.Cond.instanceMethod ({ cls := "GraftTrees$Machine", name := "alike", desc := "(II)Z" } : Jvm.MethodName)) ∈ lw_all := lw_g (lw_at lw_m7 2 rfl) rfl
theorem q1669 : (Jvm.Cond.code ({ cls := "GraftTrees$Machine", name := "alike", desc := "(II)Z" } : Jvm.MethodName) prog_5_method_49_code (7 : Nat) (Option.some Jvm.ClassFile.FieldType.boolean)) ∈ lw_all := lw_g (lw_at lw_m7 3 rfl) rfl
theorem q1670 : (Jvm.Cond.methodLink "GraftTrees$Machine" (516 : Nat) ({ cls := "GraftTrees$Machine", name := "isNumber", desc := "(I)Z" } : Jvm.MethodName)) ∈ lw_all := lw_g (lw_at lw_m7 4 rfl) rfl
theorem q1671 : (Jvm.Cond.privateMethod ({ cls := "GraftTrees$Machine", name := "isNumber", desc := "(I)Z" } : Jvm.MethodName)) ∈ lw_tbl := lw_at lw_m7 5 rfl
theorem q1672 : (Jvm.Cond.instanceMethod ({ cls := "GraftTrees$Machine", name := "isNumber", desc := "(I)Z" } : Jvm.MethodName)) ∈ lw_all := lw_g (lw_at lw_m7 6 rfl) rfl
theorem q1673 : (Jvm.Cond.code ({ cls := "GraftTrees$Machine", name := "isNumber", desc := "(I)Z" } : Jvm.MethodName) prog_5_method_38_code (2 : Nat) (Option.some Jvm.ClassFile.FieldType.boolean)) ∈ lw_all := lw_g (lw_at lw_m7 7 rfl) rfl
theorem q1674 : (Jvm.Cond.methodLink "GraftTrees$Machine" (551 : Nat) ({ cls := "GraftTrees$Machine", name := "order", desc := "()I" } : Jvm.MethodName)) ∈ lw_all := lw_g (lw_at lw_m7 8 rfl) rfl
theorem q1675 : (Jvm.Cond.privateMethod ({ cls := "GraftTrees$Machine", name := "order", desc := "()I" } : Jvm.MethodName)) ∈ lw_tbl := lw_at lw_m7 9 rfl
theorem q1676 : (Jvm.Cond.instanceMethod ({ cls := "GraftTrees$Machine", name := "order", desc := "()I" } : Jvm.MethodName)) ∈ lw_all := lw_g (lw_at lw_m7 10 rfl) rfl
theorem q1677 : (Jvm.Cond.code ({ cls := "GraftTrees$Machine", name := "order", desc := "()I" } : Jvm.MethodName) prog_5_method_47_code (1 : Nat) (Option.some Jvm.ClassFile.FieldType.int)) ∈ lw_all := lw_g (lw_at lw_m7 11 rfl) rfl
theorem q1678 : (Jvm.Cond.methodLink "GraftTrees$Machine" (530 : Nat) ({ cls := "GraftTrees$Machine", name := "whole", desc := "(ILGraftTrees$Whole;)V" } : Jvm.MethodName)) ∈ lw_all := lw_g (lw_at lw_m7 12 rfl) rfl
theorem q1679 : (Jvm.Cond.privateMethod ({ cls := "GraftTrees$Machine", name := "whole", desc := "(ILGraftTrees$Whole;)V" } : Jvm.MethodName)) ∈ lw_tbl := lw_at lw_m7 13 rfl
theorem q1680 : (Jvm.Cond.instanceMethod ({ cls := "GraftTrees$Machine", name := "whole", desc := "(ILGraftTrees$Whole;)V" } : Jvm.MethodName)) ∈ lw_all := lw_g (lw_at lw_m7 14 rfl) rfl
theorem q1681 : (Jvm.Cond.code ({ cls := "GraftTrees$Machine", name := "whole", desc := "(ILGraftTrees$Whole;)V" } : Jvm.MethodName) prog_5_method_37_code (3 : Nat) (Option.none : Option Jvm.ClassFile.FieldType)) ∈ lw_all := lw_g (lw_at lw_m7 15 rfl) rfl
theorem q1682 : (Jvm.Cond.methodLink "GraftTrees$Machine" (409 : Nat) ({ cls := "GraftTrees$Whole", name := "of", desc := "(J)V" } : Jvm.MethodName)) ∈ lw_all := lw_g (lw_at lw_m7 16 rfl) rfl
theorem q1683 : (Jvm.Cond.methodLink "GraftTrees$Machine" (416 : Nat) ({ cls := "GraftTrees$Heap", name := "get", desc := "(ILGraftTrees$Whole;)V" } : Jvm.MethodName)) ∈ lw_all := lw_g (lw_at lw_m7 17 rfl) rfl
theorem q1687 : (Jvm.Cond.methodLink "GraftTrees$Machine" (554 : Nat) ({ cls := "GraftTrees$Whole", name := "compare", desc := "(LGraftTrees$Whole;LGraftTrees$Whole;)I" } : Jvm.MethodName)) ∈ lw_all := lw_g (lw_at lw_m7 21 rfl) rfl
theorem q1693 : (Jvm.Cond.methodLink "GraftTrees$Machine" (560 : Nat) ({ cls := "GraftTrees$Heap", name := "isSame", desc := "(II)Z" } : Jvm.MethodName)) ∈ lw_all := lw_g (lw_at lw_m7 27 rfl) rfl
theorem q1697 : (Jvm.Cond.methodLink "GraftTrees$Machine" (526 : Nat) ({ cls := "GraftTrees$Machine", name := "needs", desc := "(IIZ)V" } : Jvm.MethodName)) ∈ lw_all := lw_g (lw_at lw_m7 31 rfl) rfl
theorem q1698 : (Jvm.Cond.privateMethod ({ cls := "GraftTrees$Machine", name := "needs", desc := "(IIZ)V" } : Jvm.MethodName)) ∈ lw_tbl := lw_at lw_m7 32 rfl
theorem q1699 : (Jvm.Cond.instanceMethod ({ cls := "GraftTrees$Machine", name := "needs", desc := "(IIZ)V" } : Jvm.MethodName)) ∈ lw_all := lw_g (lw_at lw_m7 33 rfl) rfl
theorem q1700 : (Jvm.Cond.code ({ cls := "GraftTrees$Machine", name := "needs", desc := "(IIZ)V" } : Jvm.MethodName) prog_5_method_44_code (5 : Nat) (Option.none : Option Jvm.ClassFile.FieldType)) ∈ lw_all := lw_g (lw_at lw_m7 34 rfl) rfl
theorem q1701 : (Jvm.Cond.methodLink "GraftTrees$Machine" (519 : Nat) ({ cls := "GraftTrees$Machine", name := "joins", desc := "(I)Z" } : Jvm.MethodName)) ∈ lw_all := lw_g (lw_at lw_m7 35 rfl) rfl
theorem q1702 : (Jvm.Cond.privateMethod ({ cls := "GraftTrees$Machine", name := "joins", desc := "(I)Z" } : Jvm.MethodName)) ∈ lw_tbl := lw_at lw_m7 36 rfl
theorem q1703 : (Jvm.Cond.instanceMethod ({ cls := "GraftTrees$Machine", name := "joins", desc := "(I)Z" } : Jvm.MethodName)) ∈ lw_all := lw_g (lw_at lw_m7 37 rfl) rfl
theorem q1704 : (Jvm.Cond.code ({ cls := "GraftTrees$Machine", name := "joins", desc := "(I)Z" } : Jvm.MethodName) prog_5_method_48_code (4 : Nat) (Option.some Jvm.ClassFile.FieldType.boolean)) ∈ lw_all := lw_g (lw_at lw_m7 38 rfl) rfl
theorem q1705 : (Jvm.Cond.methodLink "GraftTrees$Machine" (359 : Nat) ({ cls := "GraftTrees$Heap", name := "lay", desc := "()V" } : Jvm.MethodName)) ∈ lw_all := lw_g (lw_at lw_m7 39 rfl) rfl
theorem q1709 : (Jvm.Cond.methodLink "GraftTrees$Machine" (362 : Nat) ({ cls := "GraftTrees$Machine", name := "shows", desc := "(IJ)V" } : Jvm.MethodName)) ∈ lw_all := lw_g (lw_at lw_m7 43 rfl) rfl
theorem q1710 : (Jvm.Cond.privateMethod ({ cls := "GraftTrees$Machine", name := "shows", desc := "(IJ)V" } : Jvm.MethodName)) ∈ lw_tbl := lw_at lw_m7 44 rfl
theorem q1711 : (Jvm.Cond.instanceMethod ({ cls := "GraftTrees$Machine", name := "shows", desc := "(IJ)V" } : Jvm.MethodName)) ∈ lw_all := lw_g (lw_at lw_m7 45 rfl) rfl
theorem q1712 : (Jvm.Cond.code ({ cls := "GraftTrees$Machine", name := "shows", desc := "(IJ)V" } : Jvm.MethodName) prog_5_method_29_code (4 : Nat) (Option.none : Option Jvm.ClassFile.FieldType)) ∈ lw_all := lw_g (lw_at lw_m7 46 rfl) rfl
theorem q1713 : (Jvm.Cond.methodLink "GraftTrees$Machine" (412 : Nat) ({ cls := "GraftTrees$Machine", name := "digits", desc := "(LGraftTrees$Whole;)V" } : Jvm.MethodName)) ∈ lw_all := lw_g (lw_at lw_m7 47 rfl) rfl
theorem q1714 : (Jvm.Cond.privateMethod ({ cls := "GraftTrees$Machine", name := "digits", desc := "(LGraftTrees$Whole;)V" } : Jvm.MethodName)) ∈ lw_tbl := lw_at lw_m7 48 rfl
theorem q1715 : (Jvm.Cond.instanceMethod ({ cls := "GraftTrees$Machine", name := "digits", desc := "(LGraftTrees$Whole;)V" } : Jvm.MethodName)) ∈ lw_all := lw_g (lw_at lw_m7 49 rfl) rfl
theorem q1716 : (Jvm.Cond.code ({ cls := "GraftTrees$Machine", name := "digits", desc := "(LGraftTrees$Whole;)V" } : Jvm.MethodName) prog_5_method_32_code (3 : Nat) (Option.none : Option Jvm.ClassFile.FieldType)) ∈ lw_all := lw_g (lw_at lw_m7 50 rfl) rfl
theorem q1717 : (Jvm.Cond.methodLink "GraftTrees$Machine" (385 : Nat) ({ cls := "GraftTrees$Heap", name := "put", desc := "(I)V" } : Jvm.MethodName)) ∈ lw_all := lw_g (lw_at lw_m7 51 rfl) rfl
theorem q1721 : (Jvm.Cond.methodLink "GraftTrees$Machine" (448 : Nat) ({ cls := "GraftTrees$Whole", name := "digits", desc := "()I" } : Jvm.MethodName)) ∈ lw_all := lw_g (lw_at lw_m7 55 rfl) rfl
theorem q1722 : (Jvm.Cond.methodLink "GraftTrees$Machine" (450 : Nat) ({ cls := "GraftTrees$Whole", name := "digit", desc := "(I)I" } : Jvm.MethodName)) ∈ lw_all := lw_g (lw_at lw_m7 56 rfl) rfl
theorem q1723 : (Jvm.Cond.methodLink "GraftTrees$Machine" (419 : Nat) ({ cls := "GraftTrees$Machine", name := "letters", desc := "(I)V" } : Jvm.MethodName)) ∈ lw_all := lw_g (lw_at lw_m7 57 rfl) rfl
theorem q1724 : (Jvm.Cond.privateMethod ({ cls := "GraftTrees$Machine", name := "letters", desc := "(I)V" } : Jvm.MethodName)) ∈ lw_tbl := lw_at lw_m7 58 rfl
theorem q1725 : (Jvm.Cond.instanceMethod ({ cls := "GraftTrees$Machine", name := "letters", desc := "(I)V" } : Jvm.MethodName)) ∈ lw_all := lw_g (lw_at lw_m7 59 rfl) rfl
theorem q1726 : (Jvm.Cond.code ({ cls := "GraftTrees$Machine", name := "letters", desc := "(I)V" } : Jvm.MethodName) prog_5_method_31_code (3 : Nat) (Option.none : Option Jvm.ClassFile.FieldType)) ∈ lw_all := lw_g (lw_at lw_m7 60 rfl) rfl
theorem q1727 : (Jvm.Cond.stringRef "GraftTrees$Machine" (421 : Nat) "true") ∈ lw_tbl := lw_at lw_m7 61 rfl
theorem q1728 : (Jvm.Cond.stringRef "GraftTrees$Machine" (423 : Nat) "false") ∈ lw_tbl := lw_at lw_m7 62 rfl
theorem q1729 : (Jvm.Cond.methodLink "GraftTrees$Machine" (425 : Nat) ({ cls := "GraftTrees$Machine", name := "says", desc := "(Ljava/lang/String;)V" } : Jvm.MethodName)) ∈ lw_all := lw_g (lw_at lw_m7 63 rfl) rfl
theorem q1730 : (Jvm.Cond.privateMethod ({ cls := "GraftTrees$Machine", name := "says", desc := "(Ljava/lang/String;)V" } : Jvm.MethodName)) ∈ lw_tbl := lw_at lw_m7 64 rfl
theorem q1731 : (Jvm.Cond.instanceMethod ({ cls := "GraftTrees$Machine", name := "says", desc := "(Ljava/lang/String;)V" } : Jvm.MethodName)) ∈ lw_all := lw_g (lw_at lw_m7 65 rfl) rfl
theorem q1732 : (Jvm.Cond.code ({ cls := "GraftTrees$Machine", name := "says", desc := "(Ljava/lang/String;)V" } : Jvm.MethodName) prog_5_method_30_code (3 : Nat) (Option.none : Option Jvm.ClassFile.FieldType)) ∈ lw_all := lw_g (lw_at lw_m7 66 rfl) rfl
theorem q1733 : (Jvm.Cond.methodLink "GraftTrees$Machine" (436 : Nat) ({ cls := "java/lang/String", name := "length", desc := "()I" } : Jvm.MethodName)) ∈ lw_all := lw_g (lw_at lw_m7 67 rfl) rfl
theorem q1734 : (Jvm.Cond.methodLink "GraftTrees$Machine" (441 : Nat) ({ cls := "java/lang/String", name := "charAt", desc := "(I)C" } : Jvm.MethodName)) ∈ lw_all := lw_g (lw_at lw_m7 68 rfl) rfl
theorem q1735 : (Jvm.Cond.stringRef "GraftTrees$Machine" (429 : Nat) "null") ∈ lw_tbl := lw_at lw_m7 69 rfl
theorem q1736 : (Jvm.Cond.stringRef "GraftTrees$Machine" (434 : Nat) "{}") ∈ lw_tbl := lw_at lw_m7 70 rfl
theorem q1737 : (Jvm.Cond.methodLink "GraftTrees$Machine" (365 : Nat) ({ cls := "GraftTrees$Heap", name := "laidLetters", desc := "()I" } : Jvm.MethodName)) ∈ lw_all := lw_g (lw_at lw_m7 71 rfl) rfl
theorem q1741 : (Jvm.Cond.methodLink "GraftTrees$Machine" (545 : Nat) ({ cls := "GraftTrees$Heap", name := "makes", desc := "(I)Z" } : Jvm.MethodName)) ∈ lw_all := lw_g (lw_at lw_m7 75 rfl) rfl
theorem q1746 : (Jvm.Cond.methodLink "GraftTrees$Machine" (557 : Nat) ({ cls := "GraftTrees$Heap", name := "laidString", desc := "()I" } : Jvm.MethodName)) ∈ lw_all := lw_g (lw_at lw_m7 80 rfl) rfl
theorem q1750 : (Jvm.Cond.methodLink "GraftTrees$Machine" (522 : Nat) ({ cls := "GraftTrees$Machine", name := "compares", desc := "(IIZ)Z" } : Jvm.MethodName)) ∈ lw_all := lw_g (lw_at lw_m7 84 rfl) rfl
theorem q1751 : (Jvm.Cond.privateMethod ({ cls := "GraftTrees$Machine", name := "compares", desc := "(IIZ)Z" } : Jvm.MethodName)) ∈ lw_tbl := lw_at lw_m7 85 rfl
theorem q1752 : (Jvm.Cond.instanceMethod ({ cls := "GraftTrees$Machine", name := "compares", desc := "(IIZ)Z" } : Jvm.MethodName)) ∈ lw_all := lw_g (lw_at lw_m7 86 rfl) rfl
theorem q1753 : (Jvm.Cond.code ({ cls := "GraftTrees$Machine", name := "compares", desc := "(IIZ)Z" } : Jvm.MethodName) prog_5_method_46_code (4 : Nat) (Option.some Jvm.ClassFile.FieldType.boolean)) ∈ lw_all := lw_g (lw_at lw_m7 87 rfl) rfl
theorem q1754 : (Jvm.Cond.methodLink "GraftTrees$Machine" (533 : Nat) ({ cls := "GraftTrees$Whole", name := "sum", desc := "(LGraftTrees$Whole;LGraftTrees$Whole;Z)Z" } : Jvm.MethodName)) ∈ lw_all := lw_g (lw_at lw_m7 88 rfl) rfl
theorem q1766 : (Jvm.Cond.methodLink "GraftTrees$Machine" (537 : Nat) ({ cls := "GraftTrees$Whole", name := "product", desc := "(LGraftTrees$Whole;LGraftTrees$Whole;)Z" } : Jvm.MethodName)) ∈ lw_all := lw_g (lw_at lw_m7 100 rfl) rfl
theorem q1770 : (Jvm.Cond.methodLink "GraftTrees$Machine" (541 : Nat) ({ cls := "GraftTrees$Whole", name := "quotient", desc := "(LGraftTrees$Whole;LGraftTrees$Whole;LGraftTrees$Whole;)V" } : Jvm.MethodName)) ∈ lw_all := lw_g (lw_at lw_m7 104 rfl) rfl
theorem q1776 : (Jvm.Cond.methodLink "GraftTrees$Machine" (548 : Nat) ({ cls := "GraftTrees$Heap", name := "whole", desc := "(LGraftTrees$Whole;Z)I" } : Jvm.MethodName)) ∈ lw_all := lw_g (lw_at lw_m7 110 rfl) rfl
theorem q1777 : (Jvm.Cond.methodLink "GraftTrees$Machine" (239 : Nat) ({ cls := "GraftTrees$Machine", name := "left", desc := "(I)V" } : Jvm.MethodName)) ∈ lw_all := lw_g (lw_at lw_m7 111 rfl) rfl
theorem q1778 : (Jvm.Cond.privateMethod ({ cls := "GraftTrees$Machine", name := "left", desc := "(I)V" } : Jvm.MethodName)) ∈ lw_tbl := lw_at lw_m7 112 rfl
theorem q1779 : (Jvm.Cond.instanceMethod ({ cls := "GraftTrees$Machine", name := "left", desc := "(I)V" } : Jvm.MethodName)) ∈ lw_all := lw_g (lw_at lw_m7 113 rfl) rfl
theorem q1780 : (Jvm.Cond.code ({ cls := "GraftTrees$Machine", name := "left", desc := "(I)V" } : Jvm.MethodName) prog_5_method_18_code (3 : Nat) (Option.none : Option Jvm.ClassFile.FieldType)) ∈ lw_all := lw_g (lw_at lw_m7 114 rfl) rfl
theorem q1781 : (Jvm.Cond.methodLink "GraftTrees$Machine" (242 : Nat) ({ cls := "GraftTrees$Machine", name := "isTruth", desc := "(I)Z" } : Jvm.MethodName)) ∈ lw_all := lw_g (lw_at lw_m7 115 rfl) rfl
theorem q1782 : (Jvm.Cond.privateMethod ({ cls := "GraftTrees$Machine", name := "isTruth", desc := "(I)Z" } : Jvm.MethodName)) ∈ lw_tbl := lw_at lw_m7 116 rfl
theorem q1783 : (Jvm.Cond.instanceMethod ({ cls := "GraftTrees$Machine", name := "isTruth", desc := "(I)Z" } : Jvm.MethodName)) ∈ lw_all := lw_g (lw_at lw_m7 117 rfl) rfl
theorem q1784 : (Jvm.Cond.code ({ cls := "GraftTrees$Machine", name := "isTruth", desc := "(I)Z" } : Jvm.MethodName) prog_5_method_9_code (2 : Nat) (Option.some Jvm.ClassFile.FieldType.boolean)) ∈ lw_all := lw_g (lw_at lw_m7 118 rfl) rfl
theorem q1785 : (Jvm.Cond.methodLink "GraftTrees$Machine" (302 : Nat) ({ cls := "GraftTrees$Machine", name := "took", desc := "(II)V" } : Jvm.MethodName)) ∈ lw_all := lw_g (lw_at lw_m7 119 rfl) rfl
theorem q1786 : (Jvm.Cond.privateMethod ({ cls := "GraftTrees$Machine", name := "took", desc := "(II)V" } : Jvm.MethodName)) ∈ lw_tbl := lw_at lw_m7 120 rfl
theorem q1787 : (Jvm.Cond.instanceMethod ({ cls := "GraftTrees$Machine", name := "took", desc := "(II)V" } : Jvm.MethodName)) ∈ lw_all := lw_g (lw_at lw_m7 121 rfl) rfl
theorem q1788 : (Jvm.Cond.code ({ cls := "GraftTrees$Machine", name := "took", desc := "(II)V" } : Jvm.MethodName) prog_5_method_17_code (3 : Nat) (Option.none : Option Jvm.ClassFile.FieldType)) ∈ lw_all := lw_g (lw_at lw_m7 122 rfl) rfl
theorem q1789 : (Jvm.Cond.methodLink "GraftTrees$Machine" (245 : Nat) ({ cls := "GraftTrees$Machine", name := "get", desc := "(I)Z" } : Jvm.MethodName)) ∈ lw_all := lw_g (lw_at lw_m7 123 rfl) rfl
theorem q1790 : (Jvm.Cond.privateMethod ({ cls := "GraftTrees$Machine", name := "get", desc := "(I)Z" } : Jvm.MethodName)) ∈ lw_tbl := lw_at lw_m7 124 rfl
theorem q1791 : (Jvm.Cond.instanceMethod ({ cls := "GraftTrees$Machine", name := "get", desc := "(I)Z" } : Jvm.MethodName)) ∈ lw_all := lw_g (lw_at lw_m7 125 rfl) rfl
theorem q1792 : (Jvm.Cond.code ({ cls := "GraftTrees$Machine", name := "get", desc := "(I)Z" } : Jvm.MethodName) prog_5_method_35_code (7 : Nat) (Option.some Jvm.ClassFile.FieldType.boolean)) ∈ lw_all := lw_g (lw_at lw_m7 126 rfl) rfl
theorem q1793 : (Jvm.Cond.methodLink "GraftTrees$Machine" (453 : Nat) ({ cls := "GraftTrees$Machine", name := "nameAt", desc := "(II)I" } : Jvm.MethodName)) ∈ lw_all := lw_g (lw_at lw_m7 127 rfl) rfl
theorem q1794 : (Jvm.Cond.privateMethod ({ cls := "GraftTrees$Machine", name := "nameAt", desc := "(II)I" } : Jvm.MethodName)) ∈ lw_tbl := lw_at lw_m7 128 rfl
theorem q1795 : (Jvm.Cond.instanceMethod ({ cls := "GraftTrees$Machine", name := "nameAt", desc := "(II)I" } : Jvm.MethodName)) ∈ lw_all := lw_g (lw_at lw_m7 129 rfl) rfl
theorem q1796 : (Jvm.Cond.code ({ cls := "GraftTrees$Machine", name := "nameAt", desc := "(II)I" } : Jvm.MethodName) prog_5_method_33_code (3 : Nat) (Option.some Jvm.ClassFile.FieldType.int)) ∈ lw_all := lw_g (lw_at lw_m7 130 rfl) rfl
theorem q1797 : (Jvm.Cond.methodLink "GraftTrees$Machine" (456 : Nat) ({ cls := "GraftTrees$Shapes", name := "nameOf", desc := "(I)I" } : Jvm.MethodName)) ∈ lw_all := lw_g (lw_at lw_m7 131 rfl) rfl
theorem q1802 : (Jvm.Cond.methodLink "GraftTrees$Machine" (459 : Nat) ({ cls := "GraftTrees$Shapes", name := "place", desc := "(II)I" } : Jvm.MethodName)) ∈ lw_all := lw_g (lw_at lw_m7 136 rfl) rfl
theorem q1806 : (Jvm.Cond.methodLink "GraftTrees$Machine" (462 : Nat) ({ cls := "GraftTrees$Machine", name := "moves", desc := "(I)V" } : Jvm.MethodName)) ∈ lw_all := lw_g (lw_at lw_m7 140 rfl) rfl
theorem q1807 : (Jvm.Cond.privateMethod ({ cls := "GraftTrees$Machine", name := "moves", desc := "(I)V" } : Jvm.MethodName)) ∈ lw_tbl := lw_at lw_m7 141 rfl
theorem q1808 : (Jvm.Cond.instanceMethod ({ cls := "GraftTrees$Machine", name := "moves", desc := "(I)V" } : Jvm.MethodName)) ∈ lw_all := lw_g (lw_at lw_m7 142 rfl) rfl
theorem q1809 : (Jvm.Cond.code ({ cls := "GraftTrees$Machine", name := "moves", desc := "(I)V" } : Jvm.MethodName) prog_5_method_34_code (2 : Nat) (Option.none : Option Jvm.ClassFile.FieldType)) ∈ lw_all := lw_g (lw_at lw_m7 143 rfl) rfl
theorem q1810 : (Jvm.Cond.methodLink "GraftTrees$Machine" (320 : Nat) ({ cls := "GraftTrees$Machine", name := "settles", desc := "(IIIII)V" } : Jvm.MethodName)) ∈ lw_all := lw_g (lw_at lw_m7 144 rfl) rfl
theorem q1811 : (Jvm.Cond.privateMethod ({ cls := "GraftTrees$Machine", name := "settles", desc := "(IIIII)V" } : Jvm.MethodName)) ∈ lw_tbl := lw_at lw_m7 145 rfl
theorem q1812 : (Jvm.Cond.instanceMethod ({ cls := "GraftTrees$Machine", name := "settles", desc := "(IIIII)V" } : Jvm.MethodName)) ∈ lw_all := lw_g (lw_at lw_m7 146 rfl) rfl
theorem q1813 : (Jvm.Cond.code ({ cls := "GraftTrees$Machine", name := "settles", desc := "(IIIII)V" } : Jvm.MethodName) prog_5_method_22_code (13 : Nat) (Option.none : Option Jvm.ClassFile.FieldType)) ∈ lw_all := lw_g (lw_at lw_m7 147 rfl) rfl
theorem q1814 : (Jvm.Cond.methodLink "GraftTrees$Machine" (334 : Nat) ({ cls := "GraftTrees$Machine", name := "isStale", desc := "(II)Z" } : Jvm.MethodName)) ∈ lw_all := lw_g (lw_at lw_m7 148 rfl) rfl
theorem q1815 : (Jvm.Cond.privateMethod ({ cls := "GraftTrees$Machine", name := "isStale", desc := "(II)Z" } : Jvm.MethodName)) ∈ lw_tbl := lw_at lw_m7 149 rfl
theorem q1816 : (Jvm.Cond.instanceMethod ({ cls := "GraftTrees$Machine", name := "isStale", desc := "(II)Z" } : Jvm.MethodName)) ∈ lw_all := lw_g (lw_at lw_m7 150 rfl) rfl
theorem q1817 : (Jvm.Cond.code ({ cls := "GraftTrees$Machine", name := "isStale", desc := "(II)Z" } : Jvm.MethodName) prog_5_method_23_code (3 : Nat) (Option.some Jvm.ClassFile.FieldType.boolean)) ∈ lw_all := lw_g (lw_at lw_m7 151 rfl) rfl
theorem q1818 : (Jvm.Cond.methodLink "GraftTrees$Machine" (340 : Nat) ({ cls := "GraftTrees$Forest", name := "isNewest", desc := "(I)Z" } : Jvm.MethodName)) ∈ lw_all := lw_g (lw_at lw_m7 152 rfl) rfl
theorem q1819 : (Jvm.Cond.methodLink "GraftTrees$Machine" (248 : Nat) ({ cls := "GraftTrees$Machine", name := "put", desc := "(I)Z" } : Jvm.MethodName)) ∈ lw_all := lw_g (lw_at lw_m7 153 rfl) rfl
theorem q1820 : (Jvm.Cond.privateMethod ({ cls := "GraftTrees$Machine", name := "put", desc := "(I)Z" } : Jvm.MethodName)) ∈ lw_tbl := lw_at lw_m7 154 rfl
theorem q1821 : (Jvm.Cond.instanceMethod ({ cls := "GraftTrees$Machine", name := "put", desc := "(I)Z" } : Jvm.MethodName)) ∈ lw_all := lw_g (lw_at lw_m7 155 rfl) rfl
theorem q1822 : (Jvm.Cond.code ({ cls := "GraftTrees$Machine", name := "put", desc := "(I)Z" } : Jvm.MethodName) prog_5_method_36_code (13 : Nat) (Option.some Jvm.ClassFile.FieldType.boolean)) ∈ lw_all := lw_g (lw_at lw_m7 156 rfl) rfl
theorem q1823 : (Jvm.Cond.methodLink "GraftTrees$Machine" (464 : Nat) ({ cls := "GraftTrees$Shapes", name := "last", desc := "(I)I" } : Jvm.MethodName)) ∈ lw_all := lw_g (lw_at lw_m7 157 rfl) rfl
theorem q1827 : (Jvm.Cond.methodLink "GraftTrees$Machine" (467 : Nat) ({ cls := "GraftTrees$Shapes", name := "sortAt", desc := "(II)I" } : Jvm.MethodName)) ∈ lw_all := lw_g (lw_at lw_m7 161 rfl) rfl
theorem q1831 : (Jvm.Cond.methodLink "GraftTrees$Machine" (471 : Nat) ({ cls := "GraftTrees$Shapes", name := "childFor", desc := "(III)I" } : Jvm.MethodName)) ∈ lw_all := lw_g (lw_at lw_m7 165 rfl) rfl
theorem q1849 : (Jvm.Cond.methodLink "GraftTrees$Machine" (475 : Nat) ({ cls := "GraftTrees$Shapes", name := "wider", desc := "(II)I" } : Jvm.MethodName)) ∈ lw_all := lw_g (lw_at lw_m7 183 rfl) rfl
theorem q1853 : (Jvm.Cond.methodLink "GraftTrees$Machine" (478 : Nat) ({ cls := "GraftTrees$Codes", name := "obsolete", desc := "(I)V" } : Jvm.MethodName)) ∈ lw_all := lw_g (lw_at lw_m7 187 rfl) rfl
theorem q1861 : (Jvm.Cond.methodLink "GraftTrees$Machine" (251 : Nat) ({ cls := "GraftTrees$Machine", name := "call", desc := "(I)V" } : Jvm.MethodName)) ∈ lw_all := lw_g (lw_at lw_m7 195 rfl) rfl
theorem q1862 : (Jvm.Cond.privateMethod ({ cls := "GraftTrees$Machine", name := "call", desc := "(I)V" } : Jvm.MethodName)) ∈ lw_tbl := lw_at lw_m7 196 rfl
theorem q1863 : (Jvm.Cond.instanceMethod ({ cls := "GraftTrees$Machine", name := "call", desc := "(I)V" } : Jvm.MethodName)) ∈ lw_all := lw_g (lw_at lw_m7 197 rfl) rfl
theorem q1864 : (Jvm.Cond.code ({ cls := "GraftTrees$Machine", name := "call", desc := "(I)V" } : Jvm.MethodName) prog_5_method_21_code (6 : Nat) (Option.none : Option Jvm.ClassFile.FieldType)) ∈ lw_all := lw_g (lw_at lw_m7 198 rfl) rfl
theorem q1865 : (Jvm.Cond.methodLink "GraftTrees$Machine" (324 : Nat) ({ cls := "GraftTrees$Machine", name := "there", desc := "(IIII)V" } : Jvm.MethodName)) ∈ lw_all := lw_g (lw_at lw_m7 199 rfl) rfl
theorem q1866 : (Jvm.Cond.privateMethod ({ cls := "GraftTrees$Machine", name := "there", desc := "(IIII)V" } : Jvm.MethodName)) ∈ lw_tbl := lw_at lw_m7 200 rfl
theorem q1867 : (Jvm.Cond.instanceMethod ({ cls := "GraftTrees$Machine", name := "there", desc := "(IIII)V" } : Jvm.MethodName)) ∈ lw_all := lw_g (lw_at lw_m7 201 rfl) rfl
theorem q1868 : (Jvm.Cond.code ({ cls := "GraftTrees$Machine", name := "there", desc := "(IIII)V" } : Jvm.MethodName) prog_5_method_26_code (11 : Nat) (Option.none : Option Jvm.ClassFile.FieldType)) ∈ lw_all := lw_g (lw_at lw_m7 202 rfl) rfl
theorem q1869 : (Jvm.Cond.methodLink "GraftTrees$Machine" (375 : Nat) ({ cls := "GraftTrees$Machine", name := "print", desc := "(IJ)V" } : Jvm.MethodName)) ∈ lw_all := lw_g (lw_at lw_m7 203 rfl) rfl
theorem q1870 : (Jvm.Cond.privateMethod ({ cls := "GraftTrees$Machine", name := "print", desc := "(IJ)V" } : Jvm.MethodName)) ∈ lw_tbl := lw_at lw_m7 204 rfl
theorem q1871 : (Jvm.Cond.instanceMethod ({ cls := "GraftTrees$Machine", name := "print", desc := "(IJ)V" } : Jvm.MethodName)) ∈ lw_all := lw_g (lw_at lw_m7 205 rfl) rfl
theorem q1872 : (Jvm.Cond.code ({ cls := "GraftTrees$Machine", name := "print", desc := "(IJ)V" } : Jvm.MethodName) prog_5_method_27_code (6 : Nat) (Option.none : Option Jvm.ClassFile.FieldType)) ∈ lw_all := lw_g (lw_at lw_m7 206 rfl) rfl
theorem q1873 : (Jvm.Cond.methodLink "GraftTrees$Machine" (381 : Nat) ({ cls := "GraftTrees$Machine", name := "define", desc := "(IIJ)Z" } : Jvm.MethodName)) ∈ lw_all := lw_g (lw_at lw_m7 207 rfl) rfl
theorem q1874 : (Jvm.Cond.privateMethod ({ cls := "GraftTrees$Machine", name := "define", desc := "(IIJ)Z" } : Jvm.MethodName)) ∈ lw_tbl := lw_at lw_m7 208 rfl
theorem q1875 : (Jvm.Cond.instanceMethod ({ cls := "GraftTrees$Machine", name := "define", desc := "(IIJ)Z" } : Jvm.MethodName)) ∈ lw_all := lw_g (lw_at lw_m7 209 rfl) rfl
theorem q1876 : (Jvm.Cond.code ({ cls := "GraftTrees$Machine", name := "define", desc := "(IIJ)Z" } : Jvm.MethodName) prog_5_method_28_code (7 : Nat) (Option.some Jvm.ClassFile.FieldType.boolean)) ∈ lw_all := lw_g (lw_at lw_m7 210 rfl) rfl
theorem q1877 : (Jvm.Cond.methodLink "GraftTrees$Machine" (391 : Nat) ({ cls := "GraftTrees$Parser", name := "read", desc := "([BII)Z" } : Jvm.MethodName)) ∈ lw_all := lw_g (lw_at lw_m7 211 rfl) rfl
theorem q1878 : (Jvm.Cond.methodLink "GraftTrees$Machine" (402 : Nat) ({ cls := "GraftTrees$Forest", name := "plant", desc := "(LGraftTrees$Parser;[BII)I" } : Jvm.MethodName)) ∈ lw_all := lw_g (lw_at lw_m7 212 rfl) rfl
theorem q1879 : (Jvm.Cond.methodLink "GraftTrees$Machine" (406 : Nat) ({ cls := "GraftTrees$Codes", name := "defined", desc := "(I)V" } : Jvm.MethodName)) ∈ lw_all := lw_g (lw_at lw_m7 213 rfl) rfl
theorem q1887 : (Jvm.Cond.methodLink "GraftTrees$Machine" (327 : Nat) ({ cls := "GraftTrees$Codes", name := "unit", desc := "(IIII)I" } : Jvm.MethodName)) ∈ lw_all := lw_g (lw_at lw_m7 221 rfl) rfl
theorem q1891 : (Jvm.Cond.methodLink "GraftTrees$Machine" (254 : Nat) ({ cls := "GraftTrees$Machine", name := "test", desc := "(I)V" } : Jvm.MethodName)) ∈ lw_all := lw_g (lw_at lw_m7 225 rfl) rfl
theorem q1892 : (Jvm.Cond.privateMethod ({ cls := "GraftTrees$Machine", name := "test", desc := "(I)V" } : Jvm.MethodName)) ∈ lw_tbl := lw_at lw_m7 226 rfl
theorem q1893 : (Jvm.Cond.instanceMethod ({ cls := "GraftTrees$Machine", name := "test", desc := "(I)V" } : Jvm.MethodName)) ∈ lw_all := lw_g (lw_at lw_m7 227 rfl) rfl
theorem q1894 : (Jvm.Cond.code ({ cls := "GraftTrees$Machine", name := "test", desc := "(I)V" } : Jvm.MethodName) prog_5_method_16_code (3 : Nat) (Option.none : Option Jvm.ClassFile.FieldType)) ∈ lw_all := lw_g (lw_at lw_m7 228 rfl) rfl
theorem q1895 : (Jvm.Cond.methodLink "GraftTrees$Machine" (260 : Nat) ({ cls := "GraftTrees$Machine", name := "comesBack", desc := "()V" } : Jvm.MethodName)) ∈ lw_all := lw_g (lw_at lw_m7 229 rfl) rfl
theorem q1896 : (Jvm.Cond.privateMethod ({ cls := "GraftTrees$Machine", name := "comesBack", desc := "()V" } : Jvm.MethodName)) ∈ lw_tbl := lw_at lw_m7 230 rfl
theorem q1897 : (Jvm.Cond.instanceMethod ({ cls := "GraftTrees$Machine", name := "comesBack", desc := "()V" } : Jvm.MethodName)) ∈ lw_all := lw_g (lw_at lw_m7 231 rfl) rfl
theorem q1898 : (Jvm.Cond.code ({ cls := "GraftTrees$Machine", name := "comesBack", desc := "()V" } : Jvm.MethodName) prog_5_method_25_code (6 : Nat) (Option.none : Option Jvm.ClassFile.FieldType)) ∈ lw_all := lw_g (lw_at lw_m7 232 rfl) rfl
theorem in_X9 : ∀ w ∈ wsX90, w ∈ lw_all := lw_in wsX90 [1019, 1021, 1023, 1025, 1027, 1029, 1031, 1033, 1035, 1037, 1039, 1041, 1043, 1045, 1047, 1049, 1051, 1053, 1055, 1057, 1059, 1061, 1063, 1065, 1067, 1069, 1071, 1073, 1075, 1077, 1079, 1081, 1083, 1085, 1087, 1089, 1091, 1093, 1095, 1097, 1099, 1101, 1103, 1105, 1107, 1109, 1111, 1113] (by decide +kernel) (by decide +kernel)
/-! GraftTreesModel -/
def RX10 : String := "GraftTreesModel"
def TX10 : u_T := fun k => match k with
  | 0 => ("GraftTreesModel", "stop", "LGraftTreesModel$Stop;", true)
  | 1 => ("GraftTreesModel", "threshold", "I", true)
  | 2 => ("GraftTreesModel", "letters", "[B", true)
  | 3 => ("GraftTreesModel", "rowFrom", "[I", true)
  | 4 => ("GraftTreesModel", "rowSize", "[I", true)
  | 5 => ("GraftTreesModel", "rowNext", "[I", true)
  | 6 => ("GraftTreesModel", "like", "[I", true)
  | 7 => ("GraftTreesModel", "keptHeads", "[I", true)
  | 8 => ("GraftTreesModel", "runHeads", "[I", true)
  | 9 => ("GraftTreesModel", "lettered", "I", false)
  | 10 => ("GraftTreesModel", "kepts", "I", false)
  | 11 => ("GraftTreesModel", "made0", "I", false)
  | 12 => ("GraftTreesModel", "runLetters", "I", false)
  | 13 => ("GraftTreesModel", "runRows", "I", false)
  | 14 => ("GraftTreesModel", "parts", "[I", true)
  | 15 => ("GraftTreesModel", "greats", "I", false)
  | 16 => ("GraftTreesModel", "runGreats", "I", false)
  | 17 => ("GraftTreesModel", "one", "[I", true)
  | 18 => ("GraftTreesModel", "two", "[I", true)
  | 19 => ("GraftTreesModel", "sum", "[I", true)
  | 20 => ("GraftTreesModel", "rest", "[I", true)
  | 21 => ("GraftTreesModel", "wide", "[J", true)
  | 22 => ("GraftTreesModel", "text", "[B", true)
  | 23 => ("GraftTreesModel", "size", "I", false)
  | 24 => ("GraftTreesModel", "at", "I", false)
  | 25 => ("GraftTreesModel", "token", "I", false)
  | 26 => ("GraftTreesModel", "tokenAt", "I", false)
  | 27 => ("GraftTreesModel", "tokenEnd", "I", false)
  | 28 => ("GraftTreesModel", "open", "I", false)
  | 29 => ("GraftTreesModel", "loops", "I", false)
  | 30 => ("GraftTreesModel", "readFault", "I", false)
  | 31 => ("GraftTreesModel", "readPlace", "I", false)
  | 32 => ("GraftTreesModel", "tKind", "[I", true)
  | 33 => ("GraftTreesModel", "tPlace", "[I", true)
  | 34 => ("GraftTreesModel", "tEnd", "[I", true)
  | 35 => ("GraftTreesModel", "tA", "[I", true)
  | 36 => ("GraftTreesModel", "tB", "[I", true)
  | 37 => ("GraftTreesModel", "tC", "[I", true)
  | 38 => ("GraftTreesModel", "tNext", "[I", true)
  | 39 => ("GraftTreesModel", "tFrom", "[I", true)
  | 40 => ("GraftTreesModel", "tTo", "[I", true)
  | 41 => ("GraftTreesModel", "tNumber", "[I", true)
  | 42 => ("GraftTreesModel", "tInside", "[Z", true)
  | 43 => ("GraftTreesModel", "tNodes", "I", false)
  | 44 => ("GraftTreesModel", "tFirst", "I", false)
  | 45 => ("GraftTreesModel", "gFrom", "[I", true)
  | 46 => ("GraftTreesModel", "gTo", "[I", true)
  | 47 => ("GraftTreesModel", "gFirst", "[I", true)
  | 48 => ("GraftTreesModel", "gLast", "[I", true)
  | 49 => ("GraftTreesModel", "gParams", "[I", true)
  | 50 => ("GraftTreesModel", "gBody", "[I", true)
  | 51 => ("GraftTreesModel", "gLocals", "[I", true)
  | 52 => ("GraftTreesModel", "gLocalFrom", "[I", true)
  | 53 => ("GraftTreesModel", "gLocalTo", "[I", true)
  | 54 => ("GraftTreesModel", "told", "I", false)
  | 55 => ("GraftTreesModel", "roots", "I", false)
  | 56 => ("GraftTreesModel", "functions", "I", false)
  | 57 => ("GraftTreesModel", "nodes", "I", false)
  | 58 => ("GraftTreesModel", "fName", "[I", true)
  | 59 => ("GraftTreesModel", "fRoot", "[I", true)
  | 60 => ("GraftTreesModel", "rFunction", "[I", true)
  | 61 => ("GraftTreesModel", "rBase", "[I", true)
  | 62 => ("GraftTreesModel", "rNodes", "[I", true)
  | 63 => ("GraftTreesModel", "rParams", "[I", true)
  | 64 => ("GraftTreesModel", "rLocals", "[I", true)
  | 65 => ("GraftTreesModel", "rBody", "[I", true)
  | 66 => ("GraftTreesModel", "rHeat", "[I", true)
  | 67 => ("GraftTreesModel", "rCode", "[I", true)
  | 68 => ("GraftTreesModel", "rCodes", "[I", true)
  | 69 => ("GraftTreesModel", "rChanges", "[I", true)
  | 70 => ("GraftTreesModel", "rSort", "[I", true)
  | 71 => ("GraftTreesModel", "kind", "[I", true)
  | 72 => ("GraftTreesModel", "place", "[I", true)
  | 73 => ("GraftTreesModel", "a", "[I", true)
  | 74 => ("GraftTreesModel", "b", "[I", true)
  | 75 => ("GraftTreesModel", "c", "[I", true)
  | 76 => ("GraftTreesModel", "next", "[I", true)
  | 77 => ("GraftTreesModel", "rootOf", "[I", true)
  | 78 => ("GraftTreesModel", "local", "[I", true)
  | 79 => ("GraftTreesModel", "tag", "[I", true)
  | 80 => ("GraftTreesModel", "value", "[J", true)
  | 81 => ("GraftTreesModel", "state", "[I", true)
  | 82 => ("GraftTreesModel", "gone", "[I", true)
  | 83 => ("GraftTreesModel", "changes", "[I", true)
  | 84 => ("GraftTreesModel", "entries", "[I", true)
  | 85 => ("GraftTreesModel", "entry", "[I", true)
  | 86 => ("GraftTreesModel", "entryAt", "[I", true)
  | 87 => ("GraftTreesModel", "behind", "[I", true)
  | 88 => ("GraftTreesModel", "queue", "[I", true)
  | 89 => ("GraftTreesModel", "queued", "I", false)
  | 90 => ("GraftTreesModel", "named", "[I", true)
  | 91 => ("GraftTreesModel", "kindNames", "[J", true)
  | 92 => ("GraftTreesModel", "trueName", "J", false)
  | 93 => ("GraftTreesModel", "falseName", "J", false)
  | 94 => ("GraftTreesModel", "shapes", "I", false)
  | 95 => ("GraftTreesModel", "objects", "I", false)
  | 96 => ("GraftTreesModel", "shapeParent", "[I", true)
  | 97 => ("GraftTreesModel", "shapeSort", "[I", true)
  | 98 => ("GraftTreesModel", "shapeHeir", "[I", true)
  | 99 => ("GraftTreesModel", "shapeSize", "[I", true)
  | 100 => ("GraftTreesModel", "shapeName", "[I", true)
  | 101 => ("GraftTreesModel", "shapeOf", "[I", true)
  | 102 => ("GraftTreesModel", "held", "[I", true)
  | 103 => ("GraftTreesModel", "heldValue", "[J", true)
  | 104 => ("GraftTreesModel", "codes", "I", false)
  | 105 => ("GraftTreesModel", "cRoot", "[I", true)
  | 106 => ("GraftTreesModel", "cUnits", "[I", true)
  | 107 => ("GraftTreesModel", "cNodes", "[I", true)
  | 108 => ("GraftTreesModel", "cGuards", "[I", true)
  | 109 => ("GraftTreesModel", "cEntered", "[I", true)
  | 110 => ("GraftTreesModel", "cExits", "[I", true)
  | 111 => ("GraftTreesModel", "cFalls", "[I", true)
  | 112 => ("GraftTreesModel", "cValid", "[Z", true)
  | 113 => ("GraftTreesModel", "uRoot", "[I", true)
  | 114 => ("GraftTreesModel", "uIn", "[I", true)
  | 115 => ("GraftTreesModel", "uNode", "[I", true)
  | 116 => ("GraftTreesModel", "uDepth", "[I", true)
  | 117 => ("GraftTreesModel", "runState", "I", false)
  | 118 => ("GraftTreesModel", "steps", "I", false)
  | 119 => ("GraftTreesModel", "made", "I", false)
  | 120 => ("GraftTreesModel", "most", "I", false)
  | 121 => ("GraftTreesModel", "acts", "I", false)
  | 122 => ("GraftTreesModel", "mostActs", "I", false)
  | 123 => ("GraftTreesModel", "frames", "I", false)
  | 124 => ("GraftTreesModel", "tasks", "I", false)
  | 125 => ("GraftTreesModel", "piled", "I", false)
  | 126 => ("GraftTreesModel", "outSize", "I", false)
  | 127 => ("GraftTreesModel", "paused", "Z", false)
  | 128 => ("GraftTreesModel", "errorIs", "I", false)
  | 129 => ("GraftTreesModel", "errorRoot", "I", false)
  | 130 => ("GraftTreesModel", "errorNode", "I", false)
  | 131 => ("GraftTreesModel", "actRoot", "[I", true)
  | 132 => ("GraftTreesModel", "actCode", "[I", true)
  | 133 => ("GraftTreesModel", "actUnit", "[I", true)
  | 134 => ("GraftTreesModel", "actFrame", "[I", true)
  | 135 => ("GraftTreesModel", "actTasks", "[I", true)
  | 136 => ("GraftTreesModel", "actPile", "[I", true)
  | 137 => ("GraftTreesModel", "actInlined", "[Z", true)
  | 138 => ("GraftTreesModel", "localTag", "[I", true)
  | 139 => ("GraftTreesModel", "localIs", "[I", true)
  | 140 => ("GraftTreesModel", "localValue", "[J", true)
  | 141 => ("GraftTreesModel", "taskNode", "[I", true)
  | 142 => ("GraftTreesModel", "taskStage", "[I", true)
  | 143 => ("GraftTreesModel", "taskNext", "[I", true)
  | 144 => ("GraftTreesModel", "pileTag", "[I", true)
  | 145 => ("GraftTreesModel", "pileValue", "[J", true)
  | 146 => ("GraftTreesModel", "out", "[B", true)
  | 147 => ("GraftTreesModel", "total", "[I", true)
  | 148 => ("GraftTreesModel", "resultTag", "I", false)
  | 149 => ("GraftTreesModel", "resultValue", "J", false)
  | 150 => ("GraftTreesModel", "line", "[B", true)
  | 151 => ("GraftTreesModel", "lined", "I", false)
  | 152 => ("GraftTreesModel", "tape", "[B", true)
  | 153 => ("GraftTreesModel", "taped", "I", false)
  | 154 => ("GraftTreesModel", "loadFault", "I", false)
  | _ => ("GraftTreesModel", "loadPlace", "I", false)
def tyX10 : Nat → FieldType := fun k => match k with
  | 0 => .object "GraftTreesModel$Stop"
  | 1 => .int
  | 2 => .array .byte
  | 3 => .array .int
  | 4 => .array .int
  | 5 => .array .int
  | 6 => .array .int
  | 7 => .array .int
  | 8 => .array .int
  | 9 => .int
  | 10 => .int
  | 11 => .int
  | 12 => .int
  | 13 => .int
  | 14 => .array .int
  | 15 => .int
  | 16 => .int
  | 17 => .array .int
  | 18 => .array .int
  | 19 => .array .int
  | 20 => .array .int
  | 21 => .array .long
  | 22 => .array .byte
  | 23 => .int
  | 24 => .int
  | 25 => .int
  | 26 => .int
  | 27 => .int
  | 28 => .int
  | 29 => .int
  | 30 => .int
  | 31 => .int
  | 32 => .array .int
  | 33 => .array .int
  | 34 => .array .int
  | 35 => .array .int
  | 36 => .array .int
  | 37 => .array .int
  | 38 => .array .int
  | 39 => .array .int
  | 40 => .array .int
  | 41 => .array .int
  | 42 => .array .boolean
  | 43 => .int
  | 44 => .int
  | 45 => .array .int
  | 46 => .array .int
  | 47 => .array .int
  | 48 => .array .int
  | 49 => .array .int
  | 50 => .array .int
  | 51 => .array .int
  | 52 => .array .int
  | 53 => .array .int
  | 54 => .int
  | 55 => .int
  | 56 => .int
  | 57 => .int
  | 58 => .array .int
  | 59 => .array .int
  | 60 => .array .int
  | 61 => .array .int
  | 62 => .array .int
  | 63 => .array .int
  | 64 => .array .int
  | 65 => .array .int
  | 66 => .array .int
  | 67 => .array .int
  | 68 => .array .int
  | 69 => .array .int
  | 70 => .array .int
  | 71 => .array .int
  | 72 => .array .int
  | 73 => .array .int
  | 74 => .array .int
  | 75 => .array .int
  | 76 => .array .int
  | 77 => .array .int
  | 78 => .array .int
  | 79 => .array .int
  | 80 => .array .long
  | 81 => .array .int
  | 82 => .array .int
  | 83 => .array .int
  | 84 => .array .int
  | 85 => .array .int
  | 86 => .array .int
  | 87 => .array .int
  | 88 => .array .int
  | 89 => .int
  | 90 => .array .int
  | 91 => .array .long
  | 92 => .long
  | 93 => .long
  | 94 => .int
  | 95 => .int
  | 96 => .array .int
  | 97 => .array .int
  | 98 => .array .int
  | 99 => .array .int
  | 100 => .array .int
  | 101 => .array .int
  | 102 => .array .int
  | 103 => .array .long
  | 104 => .int
  | 105 => .array .int
  | 106 => .array .int
  | 107 => .array .int
  | 108 => .array .int
  | 109 => .array .int
  | 110 => .array .int
  | 111 => .array .int
  | 112 => .array .boolean
  | 113 => .array .int
  | 114 => .array .int
  | 115 => .array .int
  | 116 => .array .int
  | 117 => .int
  | 118 => .int
  | 119 => .int
  | 120 => .int
  | 121 => .int
  | 122 => .int
  | 123 => .int
  | 124 => .int
  | 125 => .int
  | 126 => .int
  | 127 => .boolean
  | 128 => .int
  | 129 => .int
  | 130 => .int
  | 131 => .array .int
  | 132 => .array .int
  | 133 => .array .int
  | 134 => .array .int
  | 135 => .array .int
  | 136 => .array .int
  | 137 => .array .boolean
  | 138 => .array .int
  | 139 => .array .int
  | 140 => .array .long
  | 141 => .array .int
  | 142 => .array .int
  | 143 => .array .int
  | 144 => .array .int
  | 145 => .array .long
  | 146 => .array .byte
  | 147 => .array .int
  | 148 => .int
  | 149 => .long
  | 150 => .array .byte
  | 151 => .int
  | 152 => .array .byte
  | 153 => .int
  | 154 => .int
  | _ => .int
abbrev wsX100 : List Cond := u_ws RX10 TX10 156
theorem nmX10 : ∀ a, a < 156 → ∀ b, b < 156 → a ≠ b → (TX10 a).2.1 ≠ (TX10 b).2.1 := by decide +kernel
theorem tyX10_ok : ∀ k, k < 156 → parseFieldDescriptor (TX10 k).2.2.1 = some (tyX10 k) := by decide +kernel
abbrev cX10_init : ByteArray := prog_11_method_1_code
def yX10_init : MethodName := ⟨RX10, "<init>", "(I)V"⟩
abbrev cX10_houseBegins : ByteArray := prog_11_method_53_code
def yX10_houseBegins : MethodName := ⟨RX10, "houseBegins", "()V"⟩
abbrev cX10_keep : ByteArray := prog_11_method_5_code
def yX10_keep : MethodName := ⟨RX10, "keep", "(Ljava/lang/String;)I"⟩
abbrev cX10_keep_2 : ByteArray := prog_11_method_4_code
def yX10_keep_2 : MethodName := ⟨RX10, "keep", "([BII)I"⟩
abbrev cX10_hash : ByteArray := prog_11_method_2_code
def yX10_hash : MethodName := ⟨RX10, "hash", "([BII)I"⟩
abbrev cX10_find : ByteArray := prog_11_method_3_code
def yX10_find : MethodName := ⟨RX10, "find", "(I[BII)I"⟩
abbrev cX10_functionOf : ByteArray := prog_11_method_52_code
def yX10_functionOf : MethodName := ⟨RX10, "functionOf", "(I)I"⟩
abbrev cX10_rootComes : ByteArray := prog_11_method_54_code
def yX10_rootComes : MethodName := ⟨RX10, "rootComes", "(I)V"⟩
abbrev cX10_endCodesOfFunction : ByteArray := prog_11_method_77_code
def yX10_endCodesOfFunction : MethodName := ⟨RX10, "endCodesOfFunction", "(I)V"⟩
abbrev cX10_unit : ByteArray := prog_11_method_69_code
def yX10_unit : MethodName := ⟨RX10, "unit", "(II)I"⟩
abbrev cX10_endCode : ByteArray := prog_11_method_75_code
def yX10_endCode : MethodName := ⟨RX10, "endCode", "(I)V"⟩
abbrev cX10_compile : ByteArray := prog_11_method_81_code
def yX10_compile : MethodName := ⟨RX10, "compile", "()I"⟩
abbrev cX10_isNewest : ByteArray := prog_11_method_55_code
def yX10_isNewest : MethodName := ⟨RX10, "isNewest", "(I)Z"⟩
abbrev cX10_makeCode : ByteArray := prog_11_method_70_code
def yX10_makeCode : MethodName := ⟨RX10, "makeCode", "(I)I"⟩
abbrev cX10_addUnit : ByteArray := prog_11_method_71_code
def yX10_addUnit : MethodName := ⟨RX10, "addUnit", "(IIIII)V"⟩
abbrev cX10_guards : ByteArray := prog_11_method_74_code
def yX10_guards : MethodName := ⟨RX10, "guards", "(I)I"⟩
abbrev cX10_isSure : ByteArray := prog_11_method_73_code
def yX10_isSure : MethodName := ⟨RX10, "isSure", "(I)Z"⟩
abbrev cX10_mayLie : ByteArray := prog_11_method_72_code
def yX10_mayLie : MethodName := ⟨RX10, "mayLie", "(III)Z"⟩
abbrev cX10_feed : ByteArray := prog_11_method_125_code
def yX10_feed : MethodName := ⟨RX10, "feed", "(IIIII)I"⟩
abbrev cX10_load : ByteArray := prog_11_method_126_code
def yX10_load : MethodName := ⟨RX10, "load", "(I)I"⟩
abbrev cX10_noRun : ByteArray := prog_11_method_127_code
def yX10_noRun : MethodName := ⟨RX10, "noRun", "()V"⟩
abbrev cX10_readText : ByteArray := prog_11_method_33_code
def yX10_readText : MethodName := ⟨RX10, "readText", "()V"⟩
abbrev cX10_take : ByteArray := prog_11_method_24_code
def yX10_take : MethodName := ⟨RX10, "take", "()V"⟩
abbrev cX10_blanks : ByteArray := prog_11_method_23_code
def yX10_blanks : MethodName := ⟨RX10, "blanks", "()V"⟩
abbrev cX10_sign : ByteArray := prog_11_method_20_code
def yX10_sign : MethodName := ⟨RX10, "sign", "(I)I"⟩
abbrev cX10_isLetter : ByteArray := prog_11_method_21_code
def yX10_isLetter : MethodName := ⟨RX10, "isLetter", "(I)Z"⟩
abbrev cX10_isDigit : ByteArray := prog_11_method_22_code
def yX10_isDigit : MethodName := ⟨RX10, "isDigit", "(I)Z"⟩
abbrev cX10_fails : ByteArray := prog_11_method_19_code
def yX10_fails : MethodName := ⟨RX10, "fails", "(II)LGraftTreesModel$Stop;"⟩
abbrev cX10_word : ByteArray := prog_11_method_27_code
def yX10_word : MethodName := ⟨RX10, "word", "()I"⟩
abbrev cX10_string : ByteArray := prog_11_method_25_code
def yX10_string : MethodName := ⟨RX10, "string", "()V"⟩
abbrev cX10_signs : ByteArray := prog_11_method_26_code
def yX10_signs : MethodName := ⟨RX10, "signs", "(I)V"⟩
abbrev cX10_function : ByteArray := prog_11_method_36_code
def yX10_function : MethodName := ⟨RX10, "function", "()V"⟩
abbrev cX10_pass : ByteArray := prog_11_method_32_code
def yX10_pass : MethodName := ⟨RX10, "pass", "(I)V"⟩
abbrev cX10_need : ByteArray := prog_11_method_30_code
def yX10_need : MethodName := ⟨RX10, "need", "(I)V"⟩
abbrev cX10_opens : ByteArray := prog_11_method_31_code
def yX10_opens : MethodName := ⟨RX10, "opens", "()V"⟩
abbrev cX10_isWord : ByteArray := prog_11_method_28_code
def yX10_isWord : MethodName := ⟨RX10, "isWord", "(IIII)Z"⟩
abbrev cX10_localOf : ByteArray := prog_11_method_34_code
def yX10_localOf : MethodName := ⟨RX10, "localOf", "(II)I"⟩
abbrev cX10_newNode : ByteArray := prog_11_method_29_code
def yX10_newNode : MethodName := ⟨RX10, "newNode", "(I)I"⟩
abbrev cX10_addLocal : ByteArray := prog_11_method_35_code
def yX10_addLocal : MethodName := ⟨RX10, "addLocal", "(II)V"⟩
abbrev cX10_block : ByteArray := prog_11_method_37_code
def yX10_block : MethodName := ⟨RX10, "block", "()I"⟩
abbrev cX10_statement : ByteArray := prog_11_method_38_code
def yX10_statement : MethodName := ⟨RX10, "statement", "()I"⟩
abbrev cX10_e : ByteArray := prog_11_method_39_code
def yX10_e : MethodName := ⟨RX10, "e", "()I"⟩
abbrev cX10_either : ByteArray := prog_11_method_41_code
def yX10_either : MethodName := ⟨RX10, "either", "()I"⟩
abbrev cX10_both : ByteArray := prog_11_method_42_code
def yX10_both : MethodName := ⟨RX10, "both", "()I"⟩
abbrev cX10_same : ByteArray := prog_11_method_43_code
def yX10_same : MethodName := ⟨RX10, "same", "()I"⟩
abbrev cX10_less : ByteArray := prog_11_method_44_code
def yX10_less : MethodName := ⟨RX10, "less", "()I"⟩
abbrev cX10_added : ByteArray := prog_11_method_45_code
def yX10_added : MethodName := ⟨RX10, "added", "()I"⟩
abbrev cX10_product : ByteArray := prog_11_method_46_code
def yX10_product : MethodName := ⟨RX10, "product", "()I"⟩
abbrev cX10_unary : ByteArray := prog_11_method_47_code
def yX10_unary : MethodName := ⟨RX10, "unary", "()I"⟩
abbrev cX10_atom : ByteArray := prog_11_method_51_code
def yX10_atom : MethodName := ⟨RX10, "atom", "()I"⟩
abbrev cX10_call : ByteArray := prog_11_method_50_code
def yX10_call : MethodName := ⟨RX10, "call", "(I)I"⟩
abbrev cX10_canBegin : ByteArray := prog_11_method_49_code
def yX10_canBegin : MethodName := ⟨RX10, "canBegin", "()Z"⟩
abbrev cX10_get : ByteArray := prog_11_method_48_code
def yX10_get : MethodName := ⟨RX10, "get", "(I)I"⟩
abbrev cX10_pair : ByteArray := prog_11_method_40_code
def yX10_pair : MethodName := ⟨RX10, "pair", "(II)I"⟩
abbrev cX10_define : ByteArray := prog_11_method_56_code
def yX10_define : MethodName := ⟨RX10, "define", "()V"⟩
abbrev cX10_number : ByteArray := prog_11_method_58_code
def yX10_number : MethodName := ⟨RX10, "number", "(I)V"⟩
abbrev cX10_lay : ByteArray := prog_11_method_59_code
def yX10_lay : MethodName := ⟨RX10, "lay", "(III)V"⟩
abbrev cX10_numberOf : ByteArray := prog_11_method_57_code
def yX10_numberOf : MethodName := ⟨RX10, "numberOf", "(I)I"⟩
abbrev cX10_number_2 : ByteArray := prog_11_method_60_code
def yX10_number_2 : MethodName := ⟨RX10, "number", "(III)V"⟩
abbrev cX10_fitsLong : ByteArray := prog_11_method_17_code
def yX10_fitsLong : MethodName := ⟨RX10, "fitsLong", "()Z"⟩
abbrev cX10_asLong : ByteArray := prog_11_method_18_code
def yX10_asLong : MethodName := ⟨RX10, "asLong", "()J"⟩
abbrev cX10_fault : ByteArray := prog_11_method_128_code
def yX10_fault : MethodName := ⟨RX10, "fault", "(I)I"⟩
abbrev cX10_start : ByteArray := prog_11_method_129_code
def yX10_start : MethodName := ⟨RX10, "start", "(JJ)Z"⟩
abbrev cX10_push : ByteArray := prog_11_method_90_code
def yX10_push : MethodName := ⟨RX10, "push", "(IJ)V"⟩
abbrev cX10_activate : ByteArray := prog_11_method_95_code
def yX10_activate : MethodName := ⟨RX10, "activate", "(IIII)V"⟩
abbrev cX10_more : ByteArray := prog_11_method_79_code
def yX10_more : MethodName := ⟨RX10, "more", "(I)I"⟩
abbrev cX10_unitAt : ByteArray := prog_11_method_96_code
def yX10_unitAt : MethodName := ⟨RX10, "unitAt", "(III)I"⟩
abbrev cX10_heat : ByteArray := prog_11_method_80_code
def yX10_heat : MethodName := ⟨RX10, "heat", "(I)V"⟩
abbrev cX10_enterCode : ByteArray := prog_11_method_94_code
def yX10_enterCode : MethodName := ⟨RX10, "enterCode", "(I)V"⟩
abbrev cX10_sets : ByteArray := prog_11_method_97_code
def yX10_sets : MethodName := ⟨RX10, "sets", "(IIJ)V"⟩
abbrev cX10_has : ByteArray := prog_11_method_84_code
def yX10_has : MethodName := ⟨RX10, "has", "(II)Z"⟩
abbrev cX10_setsAnew : ByteArray := prog_11_method_98_code
def yX10_setsAnew : MethodName := ⟨RX10, "setsAnew", "(III)I"⟩
abbrev cX10_may : ByteArray := prog_11_method_85_code
def yX10_may : MethodName := ⟨RX10, "may", "(II)Z"⟩
abbrev cX10_settle : ByteArray := prog_11_method_86_code
def yX10_settle : MethodName := ⟨RX10, "settle", "(IIZ)V"⟩
abbrev cX10_changing : ByteArray := prog_11_method_83_code
def yX10_changing : MethodName := ⟨RX10, "changing", "(I)V"⟩
abbrev cX10_leave : ByteArray := prog_11_method_82_code
def yX10_leave : MethodName := ⟨RX10, "leave", "(I)V"⟩
abbrev cX10_endCodesOfRoot : ByteArray := prog_11_method_76_code
def yX10_endCodesOfRoot : MethodName := ⟨RX10, "endCodesOfRoot", "(I)V"⟩
abbrev cX10_task : ByteArray := prog_11_method_91_code
def yX10_task : MethodName := ⟨RX10, "task", "(II)V"⟩
abbrev cX10_goOn : ByteArray := prog_11_method_130_code
def yX10_goOn : MethodName := ⟨RX10, "goOn", "(I)V"⟩
abbrev cX10_work : ByteArray := prog_11_method_101_code
def yX10_work : MethodName := ⟨RX10, "work", "()V"⟩
abbrev cX10_row : ByteArray := prog_11_method_102_code
def yX10_row : MethodName := ⟨RX10, "row", "(I)V"⟩
abbrev cX10_comesBack : ByteArray := prog_11_method_100_code
def yX10_comesBack : MethodName := ⟨RX10, "comesBack", "(IJ)V"⟩
abbrev cX10_falls : ByteArray := prog_11_method_93_code
def yX10_falls : MethodName := ⟨RX10, "falls", "()V"⟩
abbrev cX10_step : ByteArray := prog_11_method_92_code
def yX10_step : MethodName := ⟨RX10, "step", "(I)Z"⟩
abbrev cX10_error : ByteArray := prog_11_method_89_code
def yX10_error : MethodName := ⟨RX10, "error", "(II)LGraftTreesModel$Stop;"⟩
abbrev cX10_works : ByteArray := prog_11_method_103_code
def yX10_works : MethodName := ⟨RX10, "works", "(III)V"⟩
abbrev cX10_reckons : ByteArray := prog_11_method_111_code
def yX10_reckons : MethodName := ⟨RX10, "reckons", "(II)V"⟩
abbrev cX10_joins : ByteArray := prog_11_method_115_code
def yX10_joins : MethodName := ⟨RX10, "joins", "(I)V"⟩
abbrev cX10_show : ByteArray := prog_11_method_113_code
def yX10_show : MethodName := ⟨RX10, "show", "(IJ)V"⟩
abbrev cX10_write : ByteArray := prog_11_method_112_code
def yX10_write : MethodName := ⟨RX10, "write", "(J)V"⟩
abbrev cX10_sizeOf : ByteArray := prog_11_method_7_code
def yX10_sizeOf : MethodName := ⟨RX10, "sizeOf", "(J)I"⟩
abbrev cX10_letter : ByteArray := prog_11_method_8_code
def yX10_letter : MethodName := ⟨RX10, "letter", "(JI)I"⟩
abbrev cX10_digits : ByteArray := prog_11_method_114_code
def yX10_digits : MethodName := ⟨RX10, "digits", "(IJ)V"⟩
abbrev cX10_spread : ByteArray := prog_11_method_10_code
def yX10_spread : MethodName := ⟨RX10, "spread", "(IJ[I)V"⟩
abbrev cX10_rowOfRun : ByteArray := prog_11_method_6_code
def yX10_rowOfRun : MethodName := ⟨RX10, "rowOfRun", "(I)I"⟩
abbrev cX10_pairBecomes : ByteArray := prog_11_method_110_code
def yX10_pairBecomes : MethodName := ⟨RX10, "pairBecomes", "(IJ)V"⟩
abbrev cX10_isNumber : ByteArray := prog_11_method_109_code
def yX10_isNumber : MethodName := ⟨RX10, "isNumber", "(I)Z"⟩
abbrev cX10_isZero : ByteArray := prog_11_method_12_code
def yX10_isZero : MethodName := ⟨RX10, "isZero", "([I)Z"⟩
abbrev cX10_divides : ByteArray := prog_11_method_16_code
def yX10_divides : MethodName := ⟨RX10, "divides", "()V"⟩
abbrev cX10_compareSizes : ByteArray := prog_11_method_11_code
def yX10_compareSizes : MethodName := ⟨RX10, "compareSizes", "([I[I)I"⟩
abbrev cX10_multiplies : ByteArray := prog_11_method_15_code
def yX10_multiplies : MethodName := ⟨RX10, "multiplies", "()Z"⟩
abbrev cX10_adds : ByteArray := prog_11_method_14_code
def yX10_adds : MethodName := ⟨RX10, "adds", "()Z"⟩
abbrev cX10_orders : ByteArray := prog_11_method_117_code
def yX10_orders : MethodName := ⟨RX10, "orders", "(II)V"⟩
abbrev cX10_comparePair : ByteArray := prog_11_method_116_code
def yX10_comparePair : MethodName := ⟨RX10, "comparePair", "()I"⟩
abbrev cX10_compare : ByteArray := prog_11_method_13_code
def yX10_compare : MethodName := ⟨RX10, "compare", "([I[I)I"⟩
abbrev cX10_compares : ByteArray := prog_11_method_118_code
def yX10_compares : MethodName := ⟨RX10, "compares", "(II)V"⟩
abbrev cX10_isSame : ByteArray := prog_11_method_9_code
def yX10_isSame : MethodName := ⟨RX10, "isSame", "(JJ)Z"⟩
abbrev cX10_reads : ByteArray := prog_11_method_99_code
def yX10_reads : MethodName := ⟨RX10, "reads", "(I)V"⟩
abbrev cX10_begun : ByteArray := prog_11_method_104_code
def yX10_begun : MethodName := ⟨RX10, "begun", "(II)Z"⟩
abbrev cX10_eitherOrBoth : ByteArray := prog_11_method_108_code
def yX10_eitherOrBoth : MethodName := ⟨RX10, "eitherOrBoth", "(III)V"⟩
abbrev cX10_truth : ByteArray := prog_11_method_105_code
def yX10_truth : MethodName := ⟨RX10, "truth", "(I)Z"⟩
abbrev cX10_gets : ByteArray := prog_11_method_120_code
def yX10_gets : MethodName := ⟨RX10, "gets", "(II)V"⟩
abbrev cX10_nameAt : ByteArray := prog_11_method_119_code
def yX10_nameAt : MethodName := ⟨RX10, "nameAt", "(II)J"⟩
abbrev cX10_propertyAt : ByteArray := prog_11_method_61_code
def yX10_propertyAt : MethodName := ⟨RX10, "propertyAt", "(IJ)I"⟩
abbrev cX10_moves : ByteArray := prog_11_method_68_code
def yX10_moves : MethodName := ⟨RX10, "moves", "(I)V"⟩
abbrev cX10_enter : ByteArray := prog_11_method_87_code
def yX10_enter : MethodName := ⟨RX10, "enter", "(IIIII)V"⟩
abbrev cX10_isStale : ByteArray := prog_11_method_88_code
def yX10_isStale : MethodName := ⟨RX10, "isStale", "(II)Z"⟩
abbrev cX10_puts : ByteArray := prog_11_method_121_code
def yX10_puts : MethodName := ⟨RX10, "puts", "(II)V"⟩
abbrev cX10_heirOf : ByteArray := prog_11_method_67_code
def yX10_heirOf : MethodName := ⟨RX10, "heirOf", "(I)I"⟩
abbrev cX10_childOf : ByteArray := prog_11_method_63_code
def yX10_childOf : MethodName := ⟨RX10, "childOf", "(IJI)I"⟩
abbrev cX10_shapeComes : ByteArray := prog_11_method_64_code
def yX10_shapeComes : MethodName := ⟨RX10, "shapeComes", "(IJI)I"⟩
abbrev cX10_withLast : ByteArray := prog_11_method_62_code
def yX10_withLast : MethodName := ⟨RX10, "withLast", "(II)I"⟩
abbrev cX10_lacking : ByteArray := prog_11_method_65_code
def yX10_lacking : MethodName := ⟨RX10, "lacking", "(II)I"⟩
abbrev cX10_heirComes : ByteArray := prog_11_method_66_code
def yX10_heirComes : MethodName := ⟨RX10, "heirComes", "(II)I"⟩
abbrev cX10_endCodesOfShape : ByteArray := prog_11_method_78_code
def yX10_endCodesOfShape : MethodName := ⟨RX10, "endCodesOfShape", "(I)V"⟩
abbrev cX10_calls : ByteArray := prog_11_method_122_code
def yX10_calls : MethodName := ⟨RX10, "calls", "(II)V"⟩
abbrev cX10_prints : ByteArray := prog_11_method_123_code
def yX10_prints : MethodName := ⟨RX10, "prints", "(I)V"⟩
abbrev cX10_defines : ByteArray := prog_11_method_124_code
def yX10_defines : MethodName := ⟨RX10, "defines", "(IIJ)V"⟩
abbrev cX10_choice : ByteArray := prog_11_method_106_code
def yX10_choice : MethodName := ⟨RX10, "choice", "(I)Z"⟩
abbrev cX10_repeats : ByteArray := prog_11_method_107_code
def yX10_repeats : MethodName := ⟨RX10, "repeats", "(II)V"⟩
abbrev cX10_run : ByteArray := prog_11_method_131_code
def yX10_run : MethodName := ⟨RX10, "run", "(I)I"⟩
abbrev cX10_state : ByteArray := prog_11_method_132_code
def yX10_state : MethodName := ⟨RX10, "state", "()I"⟩
abbrev cX10_error_2 : ByteArray := prog_11_method_133_code
def yX10_error_2 : MethodName := ⟨RX10, "error", "(I)I"⟩
abbrev cX10_result : ByteArray := prog_11_method_134_code
def yX10_result : MethodName := ⟨RX10, "result", "(I)I"⟩
abbrev cX10_out : ByteArray := prog_11_method_135_code
def yX10_out : MethodName := ⟨RX10, "out", "(I)I"⟩
abbrev cX10_root : ByteArray := prog_11_method_136_code
def yX10_root : MethodName := ⟨RX10, "root", "(II)I"⟩
abbrev cX10_node : ByteArray := prog_11_method_137_code
def yX10_node : MethodName := ⟨RX10, "node", "(III)I"⟩
abbrev cX10_shape : ByteArray := prog_11_method_138_code
def yX10_shape : MethodName := ⟨RX10, "shape", "(II)I"⟩
abbrev cX10_code : ByteArray := prog_11_method_139_code
def yX10_code : MethodName := ⟨RX10, "code", "(II)I"⟩
abbrev cX10_frame : ByteArray := prog_11_method_140_code
def yX10_frame : MethodName := ⟨RX10, "frame", "(II)I"⟩
abbrev cX10_total : ByteArray := prog_11_method_141_code
def yX10_total : MethodName := ⟨RX10, "total", "(I)I"⟩
theorem q242 : (Jvm.Cond.initialized "GraftTreesModel") ∈ lw_all := lw_g (lw_at lw_m1 16 rfl) rfl
theorem q1988 : (Jvm.Cond.instantiable "GraftTreesModel" (156 : Nat)) ∈ lw_all := lw_g (lw_at lw_m8 82 rfl) rfl
theorem q1990 : (Jvm.Cond.instanceMethod ({ cls := "GraftTreesModel", name := "<init>", desc := "(I)V" } : Jvm.MethodName)) ∈ lw_all := lw_g (lw_at lw_m8 84 rfl) rfl
theorem q1991 : (Jvm.Cond.code ({ cls := "GraftTreesModel", name := "<init>", desc := "(I)V" } : Jvm.MethodName) prog_11_method_1_code (2 : Nat) (Option.none : Option Jvm.ClassFile.FieldType)) ∈ lw_all := lw_g (lw_at lw_m8 85 rfl) rfl
theorem q1992 : (Jvm.Cond.methodLink "GraftTreesModel" (1 : Nat) ({ cls := "java/lang/Object", name := "<init>", desc := "()V" } : Jvm.MethodName)) ∈ lw_all := lw_g (lw_at lw_m8 86 rfl) rfl
theorem q1993 : (Jvm.Cond.classLink "GraftTreesModel" (7 : Nat) "GraftTreesModel$Stop") ∈ lw_all := lw_g (lw_at lw_m8 87 rfl) rfl
theorem q2032 : (Jvm.Cond.methodLinkNest "GraftTreesModel" (9 : Nat) ({ cls := "GraftTreesModel$Stop", name := "<init>", desc := "()V" } : Jvm.MethodName) "GraftTreesModel") ∈ lw_tbl := lw_at lw_m8 126 rfl
theorem q2054 : (Jvm.Cond.constant "GraftTreesModel" (16 : Nat) (160400 : Int32)) ∈ lw_all := lw_g (lw_at lw_m8 148 rfl) rfl
theorem q2055 : (Jvm.Cond.constant "GraftTreesModel" (21 : Nat) (109004 : Int32)) ∈ lw_all := lw_g (lw_at lw_m8 149 rfl) rfl
theorem q2056 : (Jvm.Cond.constant "GraftTreesModel" (41 : Nat) (135020 : Int32)) ∈ lw_all := lw_g (lw_at lw_m8 150 rfl) rfl
theorem q2057 : (Jvm.Cond.constant "GraftTreesModel" (206 : Nat) (60000 : Int32)) ∈ lw_all := lw_g (lw_at lw_m8 151 rfl) rfl
theorem q2058 : (Jvm.Cond.constant "GraftTreesModel" (322 : Nat) (42000 : Int32)) ∈ lw_all := lw_g (lw_at lw_m8 152 rfl) rfl
theorem q2059 : (Jvm.Cond.methodLink "GraftTreesModel" (356 : Nat) ({ cls := "GraftTreesModel", name := "houseBegins", desc := "()V" } : Jvm.MethodName)) ∈ lw_all := lw_g (lw_at lw_m8 153 rfl) rfl
theorem q2060 : (Jvm.Cond.privateMethod ({ cls := "GraftTreesModel", name := "houseBegins", desc := "()V" } : Jvm.MethodName)) ∈ lw_tbl := lw_at lw_m8 154 rfl
theorem q2061 : (Jvm.Cond.instanceMethod ({ cls := "GraftTreesModel", name := "houseBegins", desc := "()V" } : Jvm.MethodName)) ∈ lw_all := lw_g (lw_at lw_m8 155 rfl) rfl
theorem q2062 : (Jvm.Cond.code ({ cls := "GraftTreesModel", name := "houseBegins", desc := "()V" } : Jvm.MethodName) prog_11_method_53_code (2 : Nat) (Option.none : Option Jvm.ClassFile.FieldType)) ∈ lw_all := lw_g (lw_at lw_m8 156 rfl) rfl
theorem q2063 : (Jvm.Cond.stringRef "GraftTreesModel" (579 : Nat) "print") ∈ lw_tbl := lw_at lw_m8 157 rfl
theorem q2064 : (Jvm.Cond.stringRef "GraftTreesModel" (581 : Nat) "new") ∈ lw_tbl := lw_at lw_m8 158 rfl
theorem q2065 : (Jvm.Cond.stringRef "GraftTreesModel" (583 : Nat) "kind") ∈ lw_tbl := lw_at lw_m8 159 rfl
theorem q2066 : (Jvm.Cond.stringRef "GraftTreesModel" (584 : Nat) "define") ∈ lw_tbl := lw_at lw_m8 160 rfl
theorem q2067 : (Jvm.Cond.methodLink "GraftTreesModel" (586 : Nat) ({ cls := "GraftTreesModel", name := "keep", desc := "(Ljava/lang/String;)I" } : Jvm.MethodName)) ∈ lw_all := lw_g (lw_at lw_m8 161 rfl) rfl
theorem q2068 : (Jvm.Cond.privateMethod ({ cls := "GraftTreesModel", name := "keep", desc := "(Ljava/lang/String;)I" } : Jvm.MethodName)) ∈ lw_tbl := lw_at lw_m8 162 rfl
theorem q2069 : (Jvm.Cond.instanceMethod ({ cls := "GraftTreesModel", name := "keep", desc := "(Ljava/lang/String;)I" } : Jvm.MethodName)) ∈ lw_all := lw_g (lw_at lw_m8 163 rfl) rfl
theorem q2070 : (Jvm.Cond.code ({ cls := "GraftTreesModel", name := "keep", desc := "(Ljava/lang/String;)I" } : Jvm.MethodName) prog_11_method_5_code (3 : Nat) (Option.some Jvm.ClassFile.FieldType.int)) ∈ lw_all := lw_g (lw_at lw_m8 164 rfl) rfl
theorem q2071 : (Jvm.Cond.methodLink "GraftTreesModel" (373 : Nat) ({ cls := "java/lang/String", name := "length", desc := "()I" } : Jvm.MethodName)) ∈ lw_all := lw_g (lw_at lw_m8 165 rfl) rfl
theorem q2072 : (Jvm.Cond.methodLink "GraftTreesModel" (379 : Nat) ({ cls := "java/lang/String", name := "charAt", desc := "(I)C" } : Jvm.MethodName)) ∈ lw_all := lw_g (lw_at lw_m8 166 rfl) rfl
theorem q2073 : (Jvm.Cond.methodLink "GraftTreesModel" (383 : Nat) ({ cls := "GraftTreesModel", name := "keep", desc := "([BII)I" } : Jvm.MethodName)) ∈ lw_all := lw_g (lw_at lw_m8 167 rfl) rfl
theorem q2074 : (Jvm.Cond.privateMethod ({ cls := "GraftTreesModel", name := "keep", desc := "([BII)I" } : Jvm.MethodName)) ∈ lw_tbl := lw_at lw_m8 168 rfl
theorem q2075 : (Jvm.Cond.instanceMethod ({ cls := "GraftTreesModel", name := "keep", desc := "([BII)I" } : Jvm.MethodName)) ∈ lw_all := lw_g (lw_at lw_m8 169 rfl) rfl
theorem q2076 : (Jvm.Cond.code ({ cls := "GraftTreesModel", name := "keep", desc := "([BII)I" } : Jvm.MethodName) prog_11_method_4_code (7 : Nat) (Option.some Jvm.ClassFile.FieldType.int)) ∈ lw_all := lw_g (lw_at lw_m8 170 rfl) rfl
theorem q2077 : (Jvm.Cond.methodLink "GraftTreesModel" (359 : Nat) ({ cls := "GraftTreesModel", name := "hash", desc := "([BII)I" } : Jvm.MethodName)) ∈ lw_all := lw_g (lw_at lw_m8 171 rfl) rfl
theorem q2078 : (Jvm.Cond.static ({ cls := "GraftTreesModel", name := "hash", desc := "([BII)I" } : Jvm.MethodName)) ∈ lw_all := lw_g (lw_at lw_m8 172 rfl) rfl
theorem q2079 : (Jvm.Cond.code ({ cls := "GraftTreesModel", name := "hash", desc := "([BII)I" } : Jvm.MethodName) prog_11_method_2_code (5 : Nat) (Option.some Jvm.ClassFile.FieldType.int)) ∈ lw_all := lw_g (lw_at lw_m8 173 rfl) rfl
theorem q2080 : (Jvm.Cond.methodLink "GraftTreesModel" (363 : Nat) ({ cls := "GraftTreesModel", name := "find", desc := "(I[BII)I" } : Jvm.MethodName)) ∈ lw_all := lw_g (lw_at lw_m8 174 rfl) rfl
theorem q2081 : (Jvm.Cond.privateMethod ({ cls := "GraftTreesModel", name := "find", desc := "(I[BII)I" } : Jvm.MethodName)) ∈ lw_tbl := lw_at lw_m8 175 rfl
theorem q2082 : (Jvm.Cond.instanceMethod ({ cls := "GraftTreesModel", name := "find", desc := "(I[BII)I" } : Jvm.MethodName)) ∈ lw_all := lw_g (lw_at lw_m8 176 rfl) rfl
theorem q2083 : (Jvm.Cond.code ({ cls := "GraftTreesModel", name := "find", desc := "(I[BII)I" } : Jvm.MethodName) prog_11_method_3_code (8 : Nat) (Option.some Jvm.ClassFile.FieldType.int)) ∈ lw_all := lw_g (lw_at lw_m8 177 rfl) rfl
theorem q2084 : (Jvm.Cond.methodLink "GraftTreesModel" (589 : Nat) ({ cls := "GraftTreesModel", name := "functionOf", desc := "(I)I" } : Jvm.MethodName)) ∈ lw_all := lw_g (lw_at lw_m8 178 rfl) rfl
theorem q2085 : (Jvm.Cond.privateMethod ({ cls := "GraftTreesModel", name := "functionOf", desc := "(I)I" } : Jvm.MethodName)) ∈ lw_tbl := lw_at lw_m8 179 rfl
theorem q2086 : (Jvm.Cond.instanceMethod ({ cls := "GraftTreesModel", name := "functionOf", desc := "(I)I" } : Jvm.MethodName)) ∈ lw_all := lw_g (lw_at lw_m8 180 rfl) rfl
theorem q2087 : (Jvm.Cond.code ({ cls := "GraftTreesModel", name := "functionOf", desc := "(I)I" } : Jvm.MethodName) prog_11_method_52_code (2 : Nat) (Option.some Jvm.ClassFile.FieldType.int)) ∈ lw_all := lw_g (lw_at lw_m8 181 rfl) rfl
theorem q2088 : (Jvm.Cond.methodLink "GraftTreesModel" (592 : Nat) ({ cls := "GraftTreesModel", name := "rootComes", desc := "(I)V" } : Jvm.MethodName)) ∈ lw_all := lw_g (lw_at lw_m8 182 rfl) rfl
theorem q2089 : (Jvm.Cond.privateMethod ({ cls := "GraftTreesModel", name := "rootComes", desc := "(I)V" } : Jvm.MethodName)) ∈ lw_tbl := lw_at lw_m8 183 rfl
theorem q2090 : (Jvm.Cond.instanceMethod ({ cls := "GraftTreesModel", name := "rootComes", desc := "(I)V" } : Jvm.MethodName)) ∈ lw_all := lw_g (lw_at lw_m8 184 rfl) rfl
theorem q2091 : (Jvm.Cond.code ({ cls := "GraftTreesModel", name := "rootComes", desc := "(I)V" } : Jvm.MethodName) prog_11_method_54_code (4 : Nat) (Option.none : Option Jvm.ClassFile.FieldType)) ∈ lw_all := lw_g (lw_at lw_m8 185 rfl) rfl
theorem q2092 : (Jvm.Cond.methodLink "GraftTreesModel" (616 : Nat) ({ cls := "GraftTreesModel", name := "endCodesOfFunction", desc := "(I)V" } : Jvm.MethodName)) ∈ lw_all := lw_g (lw_at lw_m8 186 rfl) rfl
theorem q2093 : (Jvm.Cond.privateMethod ({ cls := "GraftTreesModel", name := "endCodesOfFunction", desc := "(I)V" } : Jvm.MethodName)) ∈ lw_tbl := lw_at lw_m8 187 rfl
theorem q2094 : (Jvm.Cond.instanceMethod ({ cls := "GraftTreesModel", name := "endCodesOfFunction", desc := "(I)V" } : Jvm.MethodName)) ∈ lw_all := lw_g (lw_at lw_m8 188 rfl) rfl
theorem q2095 : (Jvm.Cond.code ({ cls := "GraftTreesModel", name := "endCodesOfFunction", desc := "(I)V" } : Jvm.MethodName) prog_11_method_77_code (8 : Nat) (Option.none : Option Jvm.ClassFile.FieldType)) ∈ lw_all := lw_g (lw_at lw_m8 189 rfl) rfl
theorem q2096 : (Jvm.Cond.methodLink "GraftTreesModel" (655 : Nat) ({ cls := "GraftTreesModel", name := "unit", desc := "(II)I" } : Jvm.MethodName)) ∈ lw_all := lw_g (lw_at lw_m8 190 rfl) rfl
theorem q2097 : (Jvm.Cond.privateMethod ({ cls := "GraftTreesModel", name := "unit", desc := "(II)I" } : Jvm.MethodName)) ∈ lw_tbl := lw_at lw_m8 191 rfl
theorem q2098 : (Jvm.Cond.instanceMethod ({ cls := "GraftTreesModel", name := "unit", desc := "(II)I" } : Jvm.MethodName)) ∈ lw_all := lw_g (lw_at lw_m8 192 rfl) rfl
theorem q2099 : (Jvm.Cond.code ({ cls := "GraftTreesModel", name := "unit", desc := "(II)I" } : Jvm.MethodName) prog_11_method_69_code (3 : Nat) (Option.some Jvm.ClassFile.FieldType.int)) ∈ lw_all := lw_g (lw_at lw_m8 193 rfl) rfl
theorem q2100 : (Jvm.Cond.methodLink "GraftTreesModel" (676 : Nat) ({ cls := "GraftTreesModel", name := "endCode", desc := "(I)V" } : Jvm.MethodName)) ∈ lw_all := lw_g (lw_at lw_m8 194 rfl) rfl
theorem q2101 : (Jvm.Cond.privateMethod ({ cls := "GraftTreesModel", name := "endCode", desc := "(I)V" } : Jvm.MethodName)) ∈ lw_tbl := lw_at lw_m8 195 rfl
theorem q2102 : (Jvm.Cond.instanceMethod ({ cls := "GraftTreesModel", name := "endCode", desc := "(I)V" } : Jvm.MethodName)) ∈ lw_all := lw_g (lw_at lw_m8 196 rfl) rfl
theorem q2103 : (Jvm.Cond.code ({ cls := "GraftTreesModel", name := "endCode", desc := "(I)V" } : Jvm.MethodName) prog_11_method_75_code (2 : Nat) (Option.none : Option Jvm.ClassFile.FieldType)) ∈ lw_all := lw_g (lw_at lw_m8 197 rfl) rfl
theorem q2104 : (Jvm.Cond.stringRef "GraftTreesModel" (595 : Nat) "null") ∈ lw_tbl := lw_at lw_m8 198 rfl
theorem q2105 : (Jvm.Cond.stringRef "GraftTreesModel" (597 : Nat) "truth") ∈ lw_tbl := lw_at lw_m8 199 rfl
theorem q2106 : (Jvm.Cond.stringRef "GraftTreesModel" (599 : Nat) "number") ∈ lw_tbl := lw_at lw_m8 200 rfl
theorem q2107 : (Jvm.Cond.stringRef "GraftTreesModel" (601 : Nat) "string") ∈ lw_tbl := lw_at lw_m8 201 rfl
theorem q2108 : (Jvm.Cond.stringRef "GraftTreesModel" (602 : Nat) "function") ∈ lw_tbl := lw_at lw_m8 202 rfl
theorem q2109 : (Jvm.Cond.stringRef "GraftTreesModel" (603 : Nat) "object") ∈ lw_tbl := lw_at lw_m8 203 rfl
theorem q2110 : (Jvm.Cond.stringRef "GraftTreesModel" (605 : Nat) "true") ∈ lw_tbl := lw_at lw_m8 204 rfl
theorem q2111 : (Jvm.Cond.stringRef "GraftTreesModel" (611 : Nat) "false") ∈ lw_tbl := lw_at lw_m8 205 rfl
theorem q2112 : (Jvm.Cond.fieldLink "GraftTreesModel" (10 : Nat) "GraftTreesModel" "stop" "LGraftTreesModel$Stop;") ∈ lw_all := lw_g (lw_at lw_m8 206 rfl) rfl
theorem q2113 : (Jvm.Cond.fieldLink "GraftTreesModel" (353 : Nat) "GraftTreesModel" "threshold" "I") ∈ lw_all := lw_g (lw_at lw_m8 207 rfl) rfl
theorem q2114 : (Jvm.Cond.fieldLink "GraftTreesModel" (17 : Nat) "GraftTreesModel" "letters" "[B") ∈ lw_all := lw_g (lw_at lw_m8 208 rfl) rfl
theorem q2115 : (Jvm.Cond.fieldLink "GraftTreesModel" (22 : Nat) "GraftTreesModel" "rowFrom" "[I") ∈ lw_all := lw_g (lw_at lw_m8 209 rfl) rfl
theorem q2116 : (Jvm.Cond.fieldLink "GraftTreesModel" (26 : Nat) "GraftTreesModel" "rowSize" "[I") ∈ lw_all := lw_g (lw_at lw_m8 210 rfl) rfl
theorem q2117 : (Jvm.Cond.fieldLink "GraftTreesModel" (29 : Nat) "GraftTreesModel" "rowNext" "[I") ∈ lw_all := lw_g (lw_at lw_m8 211 rfl) rfl
theorem q2118 : (Jvm.Cond.fieldLink "GraftTreesModel" (32 : Nat) "GraftTreesModel" "like" "[I") ∈ lw_all := lw_g (lw_at lw_m8 212 rfl) rfl
theorem q2119 : (Jvm.Cond.fieldLink "GraftTreesModel" (35 : Nat) "GraftTreesModel" "keptHeads" "[I") ∈ lw_all := lw_g (lw_at lw_m8 213 rfl) rfl
theorem q2120 : (Jvm.Cond.fieldLink "GraftTreesModel" (38 : Nat) "GraftTreesModel" "runHeads" "[I") ∈ lw_all := lw_g (lw_at lw_m8 214 rfl) rfl
theorem q2121 : (Jvm.Cond.fieldLink "GraftTreesModel" (370 : Nat) "GraftTreesModel" "lettered" "I") ∈ lw_all := lw_g (lw_at lw_m8 215 rfl) rfl
theorem q2122 : (Jvm.Cond.fieldLink "GraftTreesModel" (367 : Nat) "GraftTreesModel" "kepts" "I") ∈ lw_all := lw_g (lw_at lw_m8 216 rfl) rfl
theorem q2123 : (Jvm.Cond.fieldLink "GraftTreesModel" (844 : Nat) "GraftTreesModel" "made0" "I") ∈ lw_all := lw_g (lw_at lw_m8 217 rfl) rfl
theorem q2124 : (Jvm.Cond.fieldLink "GraftTreesModel" (389 : Nat) "GraftTreesModel" "runLetters" "I") ∈ lw_all := lw_g (lw_at lw_m8 218 rfl) rfl
theorem q2125 : (Jvm.Cond.fieldLink "GraftTreesModel" (386 : Nat) "GraftTreesModel" "runRows" "I") ∈ lw_all := lw_g (lw_at lw_m8 219 rfl) rfl
theorem q2126 : (Jvm.Cond.fieldLink "GraftTreesModel" (42 : Nat) "GraftTreesModel" "parts" "[I") ∈ lw_all := lw_g (lw_at lw_m8 220 rfl) rfl
theorem q2127 : (Jvm.Cond.fieldLink "GraftTreesModel" (561 : Nat) "GraftTreesModel" "greats" "I") ∈ lw_all := lw_g (lw_at lw_m8 221 rfl) rfl
theorem q2128 : (Jvm.Cond.fieldLink "GraftTreesModel" (851 : Nat) "GraftTreesModel" "runGreats" "I") ∈ lw_all := lw_g (lw_at lw_m8 222 rfl) rfl
theorem q2129 : (Jvm.Cond.fieldLink "GraftTreesModel" (45 : Nat) "GraftTreesModel" "one" "[I") ∈ lw_all := lw_g (lw_at lw_m8 223 rfl) rfl
theorem q2130 : (Jvm.Cond.fieldLink "GraftTreesModel" (48 : Nat) "GraftTreesModel" "two" "[I") ∈ lw_all := lw_g (lw_at lw_m8 224 rfl) rfl
theorem q2131 : (Jvm.Cond.fieldLink "GraftTreesModel" (51 : Nat) "GraftTreesModel" "sum" "[I") ∈ lw_all := lw_g (lw_at lw_m8 225 rfl) rfl
theorem q2132 : (Jvm.Cond.fieldLink "GraftTreesModel" (54 : Nat) "GraftTreesModel" "rest" "[I") ∈ lw_all := lw_g (lw_at lw_m8 226 rfl) rfl
theorem q2133 : (Jvm.Cond.fieldLink "GraftTreesModel" (57 : Nat) "GraftTreesModel" "wide" "[J") ∈ lw_all := lw_g (lw_at lw_m8 227 rfl) rfl
theorem q2134 : (Jvm.Cond.fieldLink "GraftTreesModel" (61 : Nat) "GraftTreesModel" "text" "[B") ∈ lw_all := lw_g (lw_at lw_m8 228 rfl) rfl
theorem q2135 : (Jvm.Cond.fieldLink "GraftTreesModel" (420 : Nat) "GraftTreesModel" "size" "I") ∈ lw_all := lw_g (lw_at lw_m8 229 rfl) rfl
theorem q2136 : (Jvm.Cond.fieldLink "GraftTreesModel" (423 : Nat) "GraftTreesModel" "at" "I") ∈ lw_all := lw_g (lw_at lw_m8 230 rfl) rfl
theorem q2137 : (Jvm.Cond.fieldLink "GraftTreesModel" (436 : Nat) "GraftTreesModel" "token" "I") ∈ lw_all := lw_g (lw_at lw_m8 231 rfl) rfl
theorem q2138 : (Jvm.Cond.fieldLink "GraftTreesModel" (433 : Nat) "GraftTreesModel" "tokenAt" "I") ∈ lw_all := lw_g (lw_at lw_m8 232 rfl) rfl
theorem q2139 : (Jvm.Cond.fieldLink "GraftTreesModel" (460 : Nat) "GraftTreesModel" "tokenEnd" "I") ∈ lw_all := lw_g (lw_at lw_m8 233 rfl) rfl
theorem q2140 : (Jvm.Cond.fieldLink "GraftTreesModel" (473 : Nat) "GraftTreesModel" "open" "I") ∈ lw_all := lw_g (lw_at lw_m8 234 rfl) rfl
theorem q2141 : (Jvm.Cond.fieldLink "GraftTreesModel" (498 : Nat) "GraftTreesModel" "loops" "I") ∈ lw_all := lw_g (lw_at lw_m8 235 rfl) rfl
theorem q2142 : (Jvm.Cond.fieldLink "GraftTreesModel" (414 : Nat) "GraftTreesModel" "readFault" "I") ∈ lw_all := lw_g (lw_at lw_m8 236 rfl) rfl
theorem q2143 : (Jvm.Cond.fieldLink "GraftTreesModel" (417 : Nat) "GraftTreesModel" "readPlace" "I") ∈ lw_all := lw_g (lw_at lw_m8 237 rfl) rfl
theorem q2144 : (Jvm.Cond.fieldLink "GraftTreesModel" (64 : Nat) "GraftTreesModel" "tKind" "[I") ∈ lw_all := lw_g (lw_at lw_m8 238 rfl) rfl
theorem q2145 : (Jvm.Cond.fieldLink "GraftTreesModel" (67 : Nat) "GraftTreesModel" "tPlace" "[I") ∈ lw_all := lw_g (lw_at lw_m8 239 rfl) rfl
theorem q2146 : (Jvm.Cond.fieldLink "GraftTreesModel" (70 : Nat) "GraftTreesModel" "tEnd" "[I") ∈ lw_all := lw_g (lw_at lw_m9 0 rfl) rfl
theorem q2147 : (Jvm.Cond.fieldLink "GraftTreesModel" (73 : Nat) "GraftTreesModel" "tA" "[I") ∈ lw_all := lw_g (lw_at lw_m9 1 rfl) rfl
theorem q2148 : (Jvm.Cond.fieldLink "GraftTreesModel" (76 : Nat) "GraftTreesModel" "tB" "[I") ∈ lw_all := lw_g (lw_at lw_m9 2 rfl) rfl
theorem q2149 : (Jvm.Cond.fieldLink "GraftTreesModel" (79 : Nat) "GraftTreesModel" "tC" "[I") ∈ lw_all := lw_g (lw_at lw_m9 3 rfl) rfl
theorem q2150 : (Jvm.Cond.fieldLink "GraftTreesModel" (82 : Nat) "GraftTreesModel" "tNext" "[I") ∈ lw_all := lw_g (lw_at lw_m9 4 rfl) rfl
theorem q2151 : (Jvm.Cond.fieldLink "GraftTreesModel" (85 : Nat) "GraftTreesModel" "tFrom" "[I") ∈ lw_all := lw_g (lw_at lw_m9 5 rfl) rfl
theorem q2152 : (Jvm.Cond.fieldLink "GraftTreesModel" (88 : Nat) "GraftTreesModel" "tTo" "[I") ∈ lw_all := lw_g (lw_at lw_m9 6 rfl) rfl
theorem q2153 : (Jvm.Cond.fieldLink "GraftTreesModel" (91 : Nat) "GraftTreesModel" "tNumber" "[I") ∈ lw_all := lw_g (lw_at lw_m9 7 rfl) rfl
theorem q2154 : (Jvm.Cond.fieldLink "GraftTreesModel" (94 : Nat) "GraftTreesModel" "tInside" "[Z") ∈ lw_all := lw_g (lw_at lw_m9 8 rfl) rfl
theorem q2155 : (Jvm.Cond.fieldLink "GraftTreesModel" (467 : Nat) "GraftTreesModel" "tNodes" "I") ∈ lw_all := lw_g (lw_at lw_m9 9 rfl) rfl
theorem q2156 : (Jvm.Cond.fieldLink "GraftTreesModel" (470 : Nat) "GraftTreesModel" "tFirst" "I") ∈ lw_all := lw_g (lw_at lw_m9 10 rfl) rfl
theorem q2157 : (Jvm.Cond.fieldLink "GraftTreesModel" (98 : Nat) "GraftTreesModel" "gFrom" "[I") ∈ lw_all := lw_g (lw_at lw_m9 11 rfl) rfl
theorem q2158 : (Jvm.Cond.fieldLink "GraftTreesModel" (101 : Nat) "GraftTreesModel" "gTo" "[I") ∈ lw_all := lw_g (lw_at lw_m9 12 rfl) rfl
theorem q2159 : (Jvm.Cond.fieldLink "GraftTreesModel" (104 : Nat) "GraftTreesModel" "gFirst" "[I") ∈ lw_all := lw_g (lw_at lw_m9 13 rfl) rfl
theorem q2160 : (Jvm.Cond.fieldLink "GraftTreesModel" (107 : Nat) "GraftTreesModel" "gLast" "[I") ∈ lw_all := lw_g (lw_at lw_m9 14 rfl) rfl
theorem q2161 : (Jvm.Cond.fieldLink "GraftTreesModel" (110 : Nat) "GraftTreesModel" "gParams" "[I") ∈ lw_all := lw_g (lw_at lw_m9 15 rfl) rfl
theorem q2162 : (Jvm.Cond.fieldLink "GraftTreesModel" (113 : Nat) "GraftTreesModel" "gBody" "[I") ∈ lw_all := lw_g (lw_at lw_m9 16 rfl) rfl
theorem q2163 : (Jvm.Cond.fieldLink "GraftTreesModel" (116 : Nat) "GraftTreesModel" "gLocals" "[I") ∈ lw_all := lw_g (lw_at lw_m9 17 rfl) rfl
theorem q2164 : (Jvm.Cond.fieldLink "GraftTreesModel" (119 : Nat) "GraftTreesModel" "gLocalFrom" "[I") ∈ lw_all := lw_g (lw_at lw_m9 18 rfl) rfl
theorem q2165 : (Jvm.Cond.fieldLink "GraftTreesModel" (122 : Nat) "GraftTreesModel" "gLocalTo" "[I") ∈ lw_all := lw_g (lw_at lw_m9 19 rfl) rfl
theorem q2166 : (Jvm.Cond.fieldLink "GraftTreesModel" (485 : Nat) "GraftTreesModel" "told" "I") ∈ lw_all := lw_g (lw_at lw_m9 20 rfl) rfl
theorem q2167 : (Jvm.Cond.fieldLink "GraftTreesModel" (564 : Nat) "GraftTreesModel" "roots" "I") ∈ lw_all := lw_g (lw_at lw_m9 21 rfl) rfl
theorem q2168 : (Jvm.Cond.fieldLink "GraftTreesModel" (558 : Nat) "GraftTreesModel" "functions" "I") ∈ lw_all := lw_g (lw_at lw_m9 22 rfl) rfl
theorem q2169 : (Jvm.Cond.fieldLink "GraftTreesModel" (567 : Nat) "GraftTreesModel" "nodes" "I") ∈ lw_all := lw_g (lw_at lw_m9 23 rfl) rfl
theorem q2170 : (Jvm.Cond.fieldLink "GraftTreesModel" (125 : Nat) "GraftTreesModel" "fName" "[I") ∈ lw_all := lw_g (lw_at lw_m9 24 rfl) rfl
theorem q2171 : (Jvm.Cond.fieldLink "GraftTreesModel" (128 : Nat) "GraftTreesModel" "fRoot" "[I") ∈ lw_all := lw_g (lw_at lw_m9 25 rfl) rfl
theorem q2172 : (Jvm.Cond.fieldLink "GraftTreesModel" (131 : Nat) "GraftTreesModel" "rFunction" "[I") ∈ lw_all := lw_g (lw_at lw_m9 26 rfl) rfl
theorem q2173 : (Jvm.Cond.fieldLink "GraftTreesModel" (134 : Nat) "GraftTreesModel" "rBase" "[I") ∈ lw_all := lw_g (lw_at lw_m9 27 rfl) rfl
theorem q2174 : (Jvm.Cond.fieldLink "GraftTreesModel" (137 : Nat) "GraftTreesModel" "rNodes" "[I") ∈ lw_all := lw_g (lw_at lw_m9 28 rfl) rfl
theorem q2175 : (Jvm.Cond.fieldLink "GraftTreesModel" (140 : Nat) "GraftTreesModel" "rParams" "[I") ∈ lw_all := lw_g (lw_at lw_m9 29 rfl) rfl
theorem q2176 : (Jvm.Cond.fieldLink "GraftTreesModel" (143 : Nat) "GraftTreesModel" "rLocals" "[I") ∈ lw_all := lw_g (lw_at lw_m9 30 rfl) rfl
theorem q2177 : (Jvm.Cond.fieldLink "GraftTreesModel" (146 : Nat) "GraftTreesModel" "rBody" "[I") ∈ lw_all := lw_g (lw_at lw_m9 31 rfl) rfl
theorem q2178 : (Jvm.Cond.fieldLink "GraftTreesModel" (149 : Nat) "GraftTreesModel" "rHeat" "[I") ∈ lw_all := lw_g (lw_at lw_m9 32 rfl) rfl
theorem q2179 : (Jvm.Cond.fieldLink "GraftTreesModel" (152 : Nat) "GraftTreesModel" "rCode" "[I") ∈ lw_all := lw_g (lw_at lw_m9 33 rfl) rfl
theorem q2180 : (Jvm.Cond.fieldLink "GraftTreesModel" (155 : Nat) "GraftTreesModel" "rCodes" "[I") ∈ lw_all := lw_g (lw_at lw_m9 34 rfl) rfl
theorem q2181 : (Jvm.Cond.fieldLink "GraftTreesModel" (158 : Nat) "GraftTreesModel" "rChanges" "[I") ∈ lw_all := lw_g (lw_at lw_m9 35 rfl) rfl
theorem q2182 : (Jvm.Cond.fieldLink "GraftTreesModel" (161 : Nat) "GraftTreesModel" "rSort" "[I") ∈ lw_all := lw_g (lw_at lw_m9 36 rfl) rfl
theorem q2183 : (Jvm.Cond.fieldLink "GraftTreesModel" (164 : Nat) "GraftTreesModel" "kind" "[I") ∈ lw_all := lw_g (lw_at lw_m9 37 rfl) rfl
theorem q2184 : (Jvm.Cond.fieldLink "GraftTreesModel" (167 : Nat) "GraftTreesModel" "place" "[I") ∈ lw_all := lw_g (lw_at lw_m9 38 rfl) rfl
theorem q2185 : (Jvm.Cond.fieldLink "GraftTreesModel" (170 : Nat) "GraftTreesModel" "a" "[I") ∈ lw_all := lw_g (lw_at lw_m9 39 rfl) rfl
theorem q2186 : (Jvm.Cond.fieldLink "GraftTreesModel" (173 : Nat) "GraftTreesModel" "b" "[I") ∈ lw_all := lw_g (lw_at lw_m9 40 rfl) rfl
theorem q2187 : (Jvm.Cond.fieldLink "GraftTreesModel" (176 : Nat) "GraftTreesModel" "c" "[I") ∈ lw_all := lw_g (lw_at lw_m9 41 rfl) rfl
theorem q2188 : (Jvm.Cond.fieldLink "GraftTreesModel" (179 : Nat) "GraftTreesModel" "next" "[I") ∈ lw_all := lw_g (lw_at lw_m9 42 rfl) rfl
theorem q2189 : (Jvm.Cond.fieldLink "GraftTreesModel" (182 : Nat) "GraftTreesModel" "rootOf" "[I") ∈ lw_all := lw_g (lw_at lw_m9 43 rfl) rfl
theorem q2190 : (Jvm.Cond.fieldLink "GraftTreesModel" (185 : Nat) "GraftTreesModel" "local" "[I") ∈ lw_all := lw_g (lw_at lw_m9 44 rfl) rfl
theorem q2191 : (Jvm.Cond.fieldLink "GraftTreesModel" (188 : Nat) "GraftTreesModel" "tag" "[I") ∈ lw_all := lw_g (lw_at lw_m9 45 rfl) rfl
theorem q2192 : (Jvm.Cond.fieldLink "GraftTreesModel" (191 : Nat) "GraftTreesModel" "value" "[J") ∈ lw_all := lw_g (lw_at lw_m9 46 rfl) rfl
theorem q2193 : (Jvm.Cond.fieldLink "GraftTreesModel" (194 : Nat) "GraftTreesModel" "state" "[I") ∈ lw_all := lw_g (lw_at lw_m9 47 rfl) rfl
theorem q2194 : (Jvm.Cond.fieldLink "GraftTreesModel" (197 : Nat) "GraftTreesModel" "gone" "[I") ∈ lw_all := lw_g (lw_at lw_m9 48 rfl) rfl
theorem q2195 : (Jvm.Cond.fieldLink "GraftTreesModel" (200 : Nat) "GraftTreesModel" "changes" "[I") ∈ lw_all := lw_g (lw_at lw_m9 49 rfl) rfl
theorem q2196 : (Jvm.Cond.fieldLink "GraftTreesModel" (203 : Nat) "GraftTreesModel" "entries" "[I") ∈ lw_all := lw_g (lw_at lw_m9 50 rfl) rfl
theorem q2197 : (Jvm.Cond.fieldLink "GraftTreesModel" (207 : Nat) "GraftTreesModel" "entry" "[I") ∈ lw_all := lw_g (lw_at lw_m9 51 rfl) rfl
theorem q2198 : (Jvm.Cond.fieldLink "GraftTreesModel" (210 : Nat) "GraftTreesModel" "entryAt" "[I") ∈ lw_all := lw_g (lw_at lw_m9 52 rfl) rfl
theorem q2199 : (Jvm.Cond.fieldLink "GraftTreesModel" (213 : Nat) "GraftTreesModel" "behind" "[I") ∈ lw_all := lw_g (lw_at lw_m9 53 rfl) rfl
theorem q2200 : (Jvm.Cond.fieldLink "GraftTreesModel" (216 : Nat) "GraftTreesModel" "queue" "[I") ∈ lw_all := lw_g (lw_at lw_m9 54 rfl) rfl
theorem q2201 : (Jvm.Cond.fieldLink "GraftTreesModel" (570 : Nat) "GraftTreesModel" "queued" "I") ∈ lw_all := lw_g (lw_at lw_m9 55 rfl) rfl
theorem q2202 : (Jvm.Cond.fieldLink "GraftTreesModel" (219 : Nat) "GraftTreesModel" "named" "[I") ∈ lw_all := lw_g (lw_at lw_m9 56 rfl) rfl
theorem q2203 : (Jvm.Cond.fieldLink "GraftTreesModel" (222 : Nat) "GraftTreesModel" "kindNames" "[J") ∈ lw_all := lw_g (lw_at lw_m9 57 rfl) rfl
theorem q2204 : (Jvm.Cond.fieldLink "GraftTreesModel" (607 : Nat) "GraftTreesModel" "trueName" "J") ∈ lw_all := lw_g (lw_at lw_m9 58 rfl) rfl
theorem q2205 : (Jvm.Cond.fieldLink "GraftTreesModel" (613 : Nat) "GraftTreesModel" "falseName" "J") ∈ lw_all := lw_g (lw_at lw_m9 59 rfl) rfl
theorem q2206 : (Jvm.Cond.fieldLink "GraftTreesModel" (573 : Nat) "GraftTreesModel" "shapes" "I") ∈ lw_all := lw_g (lw_at lw_m9 60 rfl) rfl
theorem q2207 : (Jvm.Cond.fieldLink "GraftTreesModel" (913 : Nat) "GraftTreesModel" "objects" "I") ∈ lw_all := lw_g (lw_at lw_m9 61 rfl) rfl
theorem q2208 : (Jvm.Cond.fieldLink "GraftTreesModel" (225 : Nat) "GraftTreesModel" "shapeParent" "[I") ∈ lw_all := lw_g (lw_at lw_m9 62 rfl) rfl
theorem q2209 : (Jvm.Cond.fieldLink "GraftTreesModel" (228 : Nat) "GraftTreesModel" "shapeSort" "[I") ∈ lw_all := lw_g (lw_at lw_m9 63 rfl) rfl
theorem q2210 : (Jvm.Cond.fieldLink "GraftTreesModel" (231 : Nat) "GraftTreesModel" "shapeHeir" "[I") ∈ lw_all := lw_g (lw_at lw_m9 64 rfl) rfl
theorem q2211 : (Jvm.Cond.fieldLink "GraftTreesModel" (234 : Nat) "GraftTreesModel" "shapeSize" "[I") ∈ lw_all := lw_g (lw_at lw_m9 65 rfl) rfl
theorem q2212 : (Jvm.Cond.fieldLink "GraftTreesModel" (237 : Nat) "GraftTreesModel" "shapeName" "[I") ∈ lw_all := lw_g (lw_at lw_m9 66 rfl) rfl
theorem q2213 : (Jvm.Cond.fieldLink "GraftTreesModel" (240 : Nat) "GraftTreesModel" "shapeOf" "[I") ∈ lw_all := lw_g (lw_at lw_m9 67 rfl) rfl
theorem q2214 : (Jvm.Cond.fieldLink "GraftTreesModel" (243 : Nat) "GraftTreesModel" "held" "[I") ∈ lw_all := lw_g (lw_at lw_m9 68 rfl) rfl
theorem q2215 : (Jvm.Cond.fieldLink "GraftTreesModel" (246 : Nat) "GraftTreesModel" "heldValue" "[J") ∈ lw_all := lw_g (lw_at lw_m9 69 rfl) rfl
theorem q2216 : (Jvm.Cond.fieldLink "GraftTreesModel" (576 : Nat) "GraftTreesModel" "codes" "I") ∈ lw_all := lw_g (lw_at lw_m9 70 rfl) rfl
theorem q2217 : (Jvm.Cond.fieldLink "GraftTreesModel" (249 : Nat) "GraftTreesModel" "cRoot" "[I") ∈ lw_all := lw_g (lw_at lw_m9 71 rfl) rfl
theorem q2218 : (Jvm.Cond.fieldLink "GraftTreesModel" (252 : Nat) "GraftTreesModel" "cUnits" "[I") ∈ lw_all := lw_g (lw_at lw_m9 72 rfl) rfl
theorem q2219 : (Jvm.Cond.fieldLink "GraftTreesModel" (255 : Nat) "GraftTreesModel" "cNodes" "[I") ∈ lw_all := lw_g (lw_at lw_m9 73 rfl) rfl
theorem q2220 : (Jvm.Cond.fieldLink "GraftTreesModel" (258 : Nat) "GraftTreesModel" "cGuards" "[I") ∈ lw_all := lw_g (lw_at lw_m9 74 rfl) rfl
theorem q2221 : (Jvm.Cond.fieldLink "GraftTreesModel" (261 : Nat) "GraftTreesModel" "cEntered" "[I") ∈ lw_all := lw_g (lw_at lw_m9 75 rfl) rfl
theorem q2222 : (Jvm.Cond.fieldLink "GraftTreesModel" (264 : Nat) "GraftTreesModel" "cExits" "[I") ∈ lw_all := lw_g (lw_at lw_m9 76 rfl) rfl
theorem q2223 : (Jvm.Cond.fieldLink "GraftTreesModel" (267 : Nat) "GraftTreesModel" "cFalls" "[I") ∈ lw_all := lw_g (lw_at lw_m9 77 rfl) rfl
theorem q2224 : (Jvm.Cond.fieldLink "GraftTreesModel" (270 : Nat) "GraftTreesModel" "cValid" "[Z") ∈ lw_all := lw_g (lw_at lw_m9 78 rfl) rfl
theorem q2225 : (Jvm.Cond.fieldLink "GraftTreesModel" (273 : Nat) "GraftTreesModel" "uRoot" "[I") ∈ lw_all := lw_g (lw_at lw_m9 79 rfl) rfl
theorem q2226 : (Jvm.Cond.fieldLink "GraftTreesModel" (276 : Nat) "GraftTreesModel" "uIn" "[I") ∈ lw_all := lw_g (lw_at lw_m9 80 rfl) rfl
theorem q2227 : (Jvm.Cond.fieldLink "GraftTreesModel" (279 : Nat) "GraftTreesModel" "uNode" "[I") ∈ lw_all := lw_g (lw_at lw_m9 81 rfl) rfl
theorem q2228 : (Jvm.Cond.fieldLink "GraftTreesModel" (282 : Nat) "GraftTreesModel" "uDepth" "[I") ∈ lw_all := lw_g (lw_at lw_m9 82 rfl) rfl
theorem q2229 : (Jvm.Cond.fieldLink "GraftTreesModel" (772 : Nat) "GraftTreesModel" "runState" "I") ∈ lw_all := lw_g (lw_at lw_m9 83 rfl) rfl
theorem q2230 : (Jvm.Cond.fieldLink "GraftTreesModel" (723 : Nat) "GraftTreesModel" "steps" "I") ∈ lw_all := lw_g (lw_at lw_m9 84 rfl) rfl
theorem q2231 : (Jvm.Cond.fieldLink "GraftTreesModel" (713 : Nat) "GraftTreesModel" "made" "I") ∈ lw_all := lw_g (lw_at lw_m9 85 rfl) rfl
theorem q2232 : (Jvm.Cond.fieldLink "GraftTreesModel" (716 : Nat) "GraftTreesModel" "most" "I") ∈ lw_all := lw_g (lw_at lw_m9 86 rfl) rfl
theorem q2233 : (Jvm.Cond.fieldLink "GraftTreesModel" (685 : Nat) "GraftTreesModel" "acts" "I") ∈ lw_all := lw_g (lw_at lw_m9 87 rfl) rfl
theorem q2234 : (Jvm.Cond.fieldLink "GraftTreesModel" (729 : Nat) "GraftTreesModel" "mostActs" "I") ∈ lw_all := lw_g (lw_at lw_m9 88 rfl) rfl
theorem q2235 : (Jvm.Cond.fieldLink "GraftTreesModel" (688 : Nat) "GraftTreesModel" "frames" "I") ∈ lw_all := lw_g (lw_at lw_m9 89 rfl) rfl
theorem q2236 : (Jvm.Cond.fieldLink "GraftTreesModel" (710 : Nat) "GraftTreesModel" "tasks" "I") ∈ lw_all := lw_g (lw_at lw_m9 90 rfl) rfl
theorem q2237 : (Jvm.Cond.fieldLink "GraftTreesModel" (707 : Nat) "GraftTreesModel" "piled" "I") ∈ lw_all := lw_g (lw_at lw_m9 91 rfl) rfl
theorem q2238 : (Jvm.Cond.fieldLink "GraftTreesModel" (919 : Nat) "GraftTreesModel" "outSize" "I") ∈ lw_all := lw_g (lw_at lw_m9 92 rfl) rfl
theorem q2239 : (Jvm.Cond.fieldLink "GraftTreesModel" (719 : Nat) "GraftTreesModel" "paused" "Z") ∈ lw_all := lw_g (lw_at lw_m9 93 rfl) rfl
theorem q2240 : (Jvm.Cond.fieldLink "GraftTreesModel" (704 : Nat) "GraftTreesModel" "errorIs" "I") ∈ lw_all := lw_g (lw_at lw_m9 94 rfl) rfl
theorem q2241 : (Jvm.Cond.fieldLink "GraftTreesModel" (285 : Nat) "GraftTreesModel" "errorRoot" "I") ∈ lw_all := lw_g (lw_at lw_m9 95 rfl) rfl
theorem q2242 : (Jvm.Cond.fieldLink "GraftTreesModel" (289 : Nat) "GraftTreesModel" "errorNode" "I") ∈ lw_all := lw_g (lw_at lw_m9 96 rfl) rfl
theorem q2243 : (Jvm.Cond.fieldLink "GraftTreesModel" (292 : Nat) "GraftTreesModel" "actRoot" "[I") ∈ lw_all := lw_g (lw_at lw_m9 97 rfl) rfl
theorem q2244 : (Jvm.Cond.fieldLink "GraftTreesModel" (295 : Nat) "GraftTreesModel" "actCode" "[I") ∈ lw_all := lw_g (lw_at lw_m9 98 rfl) rfl
theorem q2245 : (Jvm.Cond.fieldLink "GraftTreesModel" (298 : Nat) "GraftTreesModel" "actUnit" "[I") ∈ lw_all := lw_g (lw_at lw_m9 99 rfl) rfl
theorem q2246 : (Jvm.Cond.fieldLink "GraftTreesModel" (301 : Nat) "GraftTreesModel" "actFrame" "[I") ∈ lw_all := lw_g (lw_at lw_m9 100 rfl) rfl
theorem q2247 : (Jvm.Cond.fieldLink "GraftTreesModel" (304 : Nat) "GraftTreesModel" "actTasks" "[I") ∈ lw_all := lw_g (lw_at lw_m9 101 rfl) rfl
theorem q2248 : (Jvm.Cond.fieldLink "GraftTreesModel" (307 : Nat) "GraftTreesModel" "actPile" "[I") ∈ lw_all := lw_g (lw_at lw_m9 102 rfl) rfl
theorem q2249 : (Jvm.Cond.fieldLink "GraftTreesModel" (310 : Nat) "GraftTreesModel" "actInlined" "[Z") ∈ lw_all := lw_g (lw_at lw_m9 103 rfl) rfl
theorem q2250 : (Jvm.Cond.fieldLink "GraftTreesModel" (313 : Nat) "GraftTreesModel" "localTag" "[I") ∈ lw_all := lw_g (lw_at lw_m9 104 rfl) rfl
theorem q2251 : (Jvm.Cond.fieldLink "GraftTreesModel" (316 : Nat) "GraftTreesModel" "localIs" "[I") ∈ lw_all := lw_g (lw_at lw_m9 105 rfl) rfl
theorem q2252 : (Jvm.Cond.fieldLink "GraftTreesModel" (319 : Nat) "GraftTreesModel" "localValue" "[J") ∈ lw_all := lw_g (lw_at lw_m9 106 rfl) rfl
theorem q2253 : (Jvm.Cond.fieldLink "GraftTreesModel" (323 : Nat) "GraftTreesModel" "taskNode" "[I") ∈ lw_all := lw_g (lw_at lw_m9 107 rfl) rfl
theorem q2254 : (Jvm.Cond.fieldLink "GraftTreesModel" (326 : Nat) "GraftTreesModel" "taskStage" "[I") ∈ lw_all := lw_g (lw_at lw_m9 108 rfl) rfl
theorem q2255 : (Jvm.Cond.fieldLink "GraftTreesModel" (329 : Nat) "GraftTreesModel" "taskNext" "[I") ∈ lw_all := lw_g (lw_at lw_m9 109 rfl) rfl
theorem q2256 : (Jvm.Cond.fieldLink "GraftTreesModel" (332 : Nat) "GraftTreesModel" "pileTag" "[I") ∈ lw_all := lw_g (lw_at lw_m9 110 rfl) rfl
theorem q2257 : (Jvm.Cond.fieldLink "GraftTreesModel" (335 : Nat) "GraftTreesModel" "pileValue" "[J") ∈ lw_all := lw_g (lw_at lw_m9 111 rfl) rfl
theorem q2258 : (Jvm.Cond.fieldLink "GraftTreesModel" (338 : Nat) "GraftTreesModel" "out" "[B") ∈ lw_all := lw_g (lw_at lw_m9 112 rfl) rfl
theorem q2259 : (Jvm.Cond.fieldLink "GraftTreesModel" (341 : Nat) "GraftTreesModel" "total" "[I") ∈ lw_all := lw_g (lw_at lw_m9 113 rfl) rfl
theorem q2260 : (Jvm.Cond.fieldLink "GraftTreesModel" (766 : Nat) "GraftTreesModel" "resultTag" "I") ∈ lw_all := lw_g (lw_at lw_m9 114 rfl) rfl
theorem q2261 : (Jvm.Cond.fieldLink "GraftTreesModel" (769 : Nat) "GraftTreesModel" "resultValue" "J") ∈ lw_all := lw_g (lw_at lw_m9 115 rfl) rfl
theorem q2262 : (Jvm.Cond.fieldLink "GraftTreesModel" (344 : Nat) "GraftTreesModel" "line" "[B") ∈ lw_all := lw_g (lw_at lw_m9 116 rfl) rfl
theorem q2263 : (Jvm.Cond.fieldLink "GraftTreesModel" (854 : Nat) "GraftTreesModel" "lined" "I") ∈ lw_all := lw_g (lw_at lw_m9 117 rfl) rfl
theorem q2264 : (Jvm.Cond.fieldLink "GraftTreesModel" (347 : Nat) "GraftTreesModel" "tape" "[B") ∈ lw_all := lw_g (lw_at lw_m9 118 rfl) rfl
theorem q2265 : (Jvm.Cond.fieldLink "GraftTreesModel" (927 : Nat) "GraftTreesModel" "taped" "I") ∈ lw_all := lw_g (lw_at lw_m9 119 rfl) rfl
theorem q2266 : (Jvm.Cond.fieldLink "GraftTreesModel" (933 : Nat) "GraftTreesModel" "loadFault" "I") ∈ lw_all := lw_g (lw_at lw_m9 120 rfl) rfl
theorem q2267 : (Jvm.Cond.fieldLink "GraftTreesModel" (350 : Nat) "GraftTreesModel" "loadPlace" "I") ∈ lw_all := lw_g (lw_at lw_m9 121 rfl) rfl
theorem q2268 : (Jvm.Cond.laysFinal "GraftTreesModel" "GraftTreesModel" "stop" "LGraftTreesModel$Stop;") ∈ lw_all := lw_g (lw_at lw_m9 122 rfl) rfl
theorem q2269 : (Jvm.Cond.soleField "GraftTreesModel" "stop") ∈ lw_all := lw_g (lw_at lw_m9 123 rfl) rfl
theorem q2270 : (Jvm.Cond.laysFinal "GraftTreesModel" "GraftTreesModel" "threshold" "I") ∈ lw_all := lw_g (lw_at lw_m9 124 rfl) rfl
theorem q2271 : (Jvm.Cond.soleField "GraftTreesModel" "threshold") ∈ lw_all := lw_g (lw_at lw_m9 125 rfl) rfl
theorem q2272 : (Jvm.Cond.laysFinal "GraftTreesModel" "GraftTreesModel" "letters" "[B") ∈ lw_all := lw_g (lw_at lw_m9 126 rfl) rfl
theorem q2273 : (Jvm.Cond.soleField "GraftTreesModel" "letters") ∈ lw_all := lw_g (lw_at lw_m9 127 rfl) rfl
theorem q2274 : (Jvm.Cond.laysFinal "GraftTreesModel" "GraftTreesModel" "rowFrom" "[I") ∈ lw_all := lw_g (lw_at lw_m9 128 rfl) rfl
theorem q2275 : (Jvm.Cond.soleField "GraftTreesModel" "rowFrom") ∈ lw_all := lw_g (lw_at lw_m9 129 rfl) rfl
theorem q2276 : (Jvm.Cond.laysFinal "GraftTreesModel" "GraftTreesModel" "rowSize" "[I") ∈ lw_all := lw_g (lw_at lw_m9 130 rfl) rfl
theorem q2277 : (Jvm.Cond.soleField "GraftTreesModel" "rowSize") ∈ lw_all := lw_g (lw_at lw_m9 131 rfl) rfl
theorem q2278 : (Jvm.Cond.laysFinal "GraftTreesModel" "GraftTreesModel" "rowNext" "[I") ∈ lw_all := lw_g (lw_at lw_m9 132 rfl) rfl
theorem q2279 : (Jvm.Cond.soleField "GraftTreesModel" "rowNext") ∈ lw_all := lw_g (lw_at lw_m9 133 rfl) rfl
theorem q2280 : (Jvm.Cond.laysFinal "GraftTreesModel" "GraftTreesModel" "like" "[I") ∈ lw_all := lw_g (lw_at lw_m9 134 rfl) rfl
theorem q2281 : (Jvm.Cond.soleField "GraftTreesModel" "like") ∈ lw_all := lw_g (lw_at lw_m9 135 rfl) rfl
theorem q2282 : (Jvm.Cond.laysFinal "GraftTreesModel" "GraftTreesModel" "keptHeads" "[I") ∈ lw_all := lw_g (lw_at lw_m9 136 rfl) rfl
theorem q2283 : (Jvm.Cond.soleField "GraftTreesModel" "keptHeads") ∈ lw_all := lw_g (lw_at lw_m9 137 rfl) rfl
theorem q2284 : (Jvm.Cond.laysFinal "GraftTreesModel" "GraftTreesModel" "runHeads" "[I") ∈ lw_all := lw_g (lw_at lw_m9 138 rfl) rfl
theorem q2285 : (Jvm.Cond.soleField "GraftTreesModel" "runHeads") ∈ lw_all := lw_g (lw_at lw_m9 139 rfl) rfl
theorem q2286 : (Jvm.Cond.lays "GraftTreesModel" "GraftTreesModel" "lettered" "I") ∈ lw_all := lw_g (lw_at lw_m9 140 rfl) rfl
theorem q2287 : (Jvm.Cond.soleField "GraftTreesModel" "lettered") ∈ lw_all := lw_g (lw_at lw_m9 141 rfl) rfl
theorem q2288 : (Jvm.Cond.lays "GraftTreesModel" "GraftTreesModel" "kepts" "I") ∈ lw_all := lw_g (lw_at lw_m9 142 rfl) rfl
theorem q2289 : (Jvm.Cond.soleField "GraftTreesModel" "kepts") ∈ lw_all := lw_g (lw_at lw_m9 143 rfl) rfl
theorem q2290 : (Jvm.Cond.lays "GraftTreesModel" "GraftTreesModel" "made0" "I") ∈ lw_all := lw_g (lw_at lw_m9 144 rfl) rfl
theorem q2291 : (Jvm.Cond.soleField "GraftTreesModel" "made0") ∈ lw_all := lw_g (lw_at lw_m9 145 rfl) rfl
theorem q2292 : (Jvm.Cond.lays "GraftTreesModel" "GraftTreesModel" "runLetters" "I") ∈ lw_all := lw_g (lw_at lw_m9 146 rfl) rfl
theorem q2293 : (Jvm.Cond.soleField "GraftTreesModel" "runLetters") ∈ lw_all := lw_g (lw_at lw_m9 147 rfl) rfl
theorem q2294 : (Jvm.Cond.lays "GraftTreesModel" "GraftTreesModel" "runRows" "I") ∈ lw_all := lw_g (lw_at lw_m9 148 rfl) rfl
theorem q2295 : (Jvm.Cond.soleField "GraftTreesModel" "runRows") ∈ lw_all := lw_g (lw_at lw_m9 149 rfl) rfl
theorem q2296 : (Jvm.Cond.laysFinal "GraftTreesModel" "GraftTreesModel" "parts" "[I") ∈ lw_all := lw_g (lw_at lw_m9 150 rfl) rfl
theorem q2297 : (Jvm.Cond.soleField "GraftTreesModel" "parts") ∈ lw_all := lw_g (lw_at lw_m9 151 rfl) rfl
theorem q2298 : (Jvm.Cond.lays "GraftTreesModel" "GraftTreesModel" "greats" "I") ∈ lw_all := lw_g (lw_at lw_m9 152 rfl) rfl
theorem q2299 : (Jvm.Cond.soleField "GraftTreesModel" "greats") ∈ lw_all := lw_g (lw_at lw_m9 153 rfl) rfl
theorem q2300 : (Jvm.Cond.lays "GraftTreesModel" "GraftTreesModel" "runGreats" "I") ∈ lw_all := lw_g (lw_at lw_m9 154 rfl) rfl
theorem q2301 : (Jvm.Cond.soleField "GraftTreesModel" "runGreats") ∈ lw_all := lw_g (lw_at lw_m9 155 rfl) rfl
theorem q2302 : (Jvm.Cond.laysFinal "GraftTreesModel" "GraftTreesModel" "one" "[I") ∈ lw_all := lw_g (lw_at lw_m9 156 rfl) rfl
theorem q2303 : (Jvm.Cond.soleField "GraftTreesModel" "one") ∈ lw_all := lw_g (lw_at lw_m9 157 rfl) rfl
theorem q2304 : (Jvm.Cond.laysFinal "GraftTreesModel" "GraftTreesModel" "two" "[I") ∈ lw_all := lw_g (lw_at lw_m9 158 rfl) rfl
theorem q2305 : (Jvm.Cond.soleField "GraftTreesModel" "two") ∈ lw_all := lw_g (lw_at lw_m9 159 rfl) rfl
theorem q2306 : (Jvm.Cond.laysFinal "GraftTreesModel" "GraftTreesModel" "sum" "[I") ∈ lw_all := lw_g (lw_at lw_m9 160 rfl) rfl
theorem q2307 : (Jvm.Cond.soleField "GraftTreesModel" "sum") ∈ lw_all := lw_g (lw_at lw_m9 161 rfl) rfl
theorem q2308 : (Jvm.Cond.laysFinal "GraftTreesModel" "GraftTreesModel" "rest" "[I") ∈ lw_all := lw_g (lw_at lw_m9 162 rfl) rfl
theorem q2309 : (Jvm.Cond.soleField "GraftTreesModel" "rest") ∈ lw_all := lw_g (lw_at lw_m9 163 rfl) rfl
theorem q2310 : (Jvm.Cond.laysFinal "GraftTreesModel" "GraftTreesModel" "wide" "[J") ∈ lw_all := lw_g (lw_at lw_m9 164 rfl) rfl
theorem q2311 : (Jvm.Cond.soleField "GraftTreesModel" "wide") ∈ lw_all := lw_g (lw_at lw_m9 165 rfl) rfl
theorem q2312 : (Jvm.Cond.laysFinal "GraftTreesModel" "GraftTreesModel" "text" "[B") ∈ lw_all := lw_g (lw_at lw_m9 166 rfl) rfl
theorem q2313 : (Jvm.Cond.soleField "GraftTreesModel" "text") ∈ lw_all := lw_g (lw_at lw_m9 167 rfl) rfl
theorem q2314 : (Jvm.Cond.lays "GraftTreesModel" "GraftTreesModel" "size" "I") ∈ lw_all := lw_g (lw_at lw_m9 168 rfl) rfl
theorem q2315 : (Jvm.Cond.soleField "GraftTreesModel" "size") ∈ lw_all := lw_g (lw_at lw_m9 169 rfl) rfl
theorem q2316 : (Jvm.Cond.lays "GraftTreesModel" "GraftTreesModel" "at" "I") ∈ lw_all := lw_g (lw_at lw_m9 170 rfl) rfl
theorem q2317 : (Jvm.Cond.soleField "GraftTreesModel" "at") ∈ lw_all := lw_g (lw_at lw_m9 171 rfl) rfl
theorem q2318 : (Jvm.Cond.lays "GraftTreesModel" "GraftTreesModel" "token" "I") ∈ lw_all := lw_g (lw_at lw_m9 172 rfl) rfl
theorem q2319 : (Jvm.Cond.soleField "GraftTreesModel" "token") ∈ lw_all := lw_g (lw_at lw_m9 173 rfl) rfl
theorem q2320 : (Jvm.Cond.lays "GraftTreesModel" "GraftTreesModel" "tokenAt" "I") ∈ lw_all := lw_g (lw_at lw_m9 174 rfl) rfl
theorem q2321 : (Jvm.Cond.soleField "GraftTreesModel" "tokenAt") ∈ lw_all := lw_g (lw_at lw_m9 175 rfl) rfl
theorem q2322 : (Jvm.Cond.lays "GraftTreesModel" "GraftTreesModel" "tokenEnd" "I") ∈ lw_all := lw_g (lw_at lw_m9 176 rfl) rfl
theorem q2323 : (Jvm.Cond.soleField "GraftTreesModel" "tokenEnd") ∈ lw_all := lw_g (lw_at lw_m9 177 rfl) rfl
theorem q2324 : (Jvm.Cond.lays "GraftTreesModel" "GraftTreesModel" "open" "I") ∈ lw_all := lw_g (lw_at lw_m9 178 rfl) rfl
theorem q2325 : (Jvm.Cond.soleField "GraftTreesModel" "open") ∈ lw_all := lw_g (lw_at lw_m9 179 rfl) rfl
theorem q2326 : (Jvm.Cond.lays "GraftTreesModel" "GraftTreesModel" "loops" "I") ∈ lw_all := lw_g (lw_at lw_m9 180 rfl) rfl
theorem q2327 : (Jvm.Cond.soleField "GraftTreesModel" "loops") ∈ lw_all := lw_g (lw_at lw_m9 181 rfl) rfl
theorem q2328 : (Jvm.Cond.lays "GraftTreesModel" "GraftTreesModel" "readFault" "I") ∈ lw_all := lw_g (lw_at lw_m9 182 rfl) rfl
theorem q2329 : (Jvm.Cond.soleField "GraftTreesModel" "readFault") ∈ lw_all := lw_g (lw_at lw_m9 183 rfl) rfl
theorem q2330 : (Jvm.Cond.lays "GraftTreesModel" "GraftTreesModel" "readPlace" "I") ∈ lw_all := lw_g (lw_at lw_m9 184 rfl) rfl
theorem q2331 : (Jvm.Cond.soleField "GraftTreesModel" "readPlace") ∈ lw_all := lw_g (lw_at lw_m9 185 rfl) rfl
theorem q2332 : (Jvm.Cond.laysFinal "GraftTreesModel" "GraftTreesModel" "tKind" "[I") ∈ lw_all := lw_g (lw_at lw_m9 186 rfl) rfl
theorem q2333 : (Jvm.Cond.soleField "GraftTreesModel" "tKind") ∈ lw_all := lw_g (lw_at lw_m9 187 rfl) rfl
theorem q2334 : (Jvm.Cond.laysFinal "GraftTreesModel" "GraftTreesModel" "tPlace" "[I") ∈ lw_all := lw_g (lw_at lw_m9 188 rfl) rfl
theorem q2335 : (Jvm.Cond.soleField "GraftTreesModel" "tPlace") ∈ lw_all := lw_g (lw_at lw_m9 189 rfl) rfl
theorem q2336 : (Jvm.Cond.laysFinal "GraftTreesModel" "GraftTreesModel" "tEnd" "[I") ∈ lw_all := lw_g (lw_at lw_m9 190 rfl) rfl
theorem q2337 : (Jvm.Cond.soleField "GraftTreesModel" "tEnd") ∈ lw_all := lw_g (lw_at lw_m9 191 rfl) rfl
theorem q2338 : (Jvm.Cond.laysFinal "GraftTreesModel" "GraftTreesModel" "tA" "[I") ∈ lw_all := lw_g (lw_at lw_m9 192 rfl) rfl
theorem q2339 : (Jvm.Cond.soleField "GraftTreesModel" "tA") ∈ lw_all := lw_g (lw_at lw_m9 193 rfl) rfl
theorem q2340 : (Jvm.Cond.laysFinal "GraftTreesModel" "GraftTreesModel" "tB" "[I") ∈ lw_all := lw_g (lw_at lw_m9 194 rfl) rfl
theorem q2341 : (Jvm.Cond.soleField "GraftTreesModel" "tB") ∈ lw_all := lw_g (lw_at lw_m9 195 rfl) rfl
theorem q2342 : (Jvm.Cond.laysFinal "GraftTreesModel" "GraftTreesModel" "tC" "[I") ∈ lw_all := lw_g (lw_at lw_m9 196 rfl) rfl
theorem q2343 : (Jvm.Cond.soleField "GraftTreesModel" "tC") ∈ lw_all := lw_g (lw_at lw_m9 197 rfl) rfl
theorem q2344 : (Jvm.Cond.laysFinal "GraftTreesModel" "GraftTreesModel" "tNext" "[I") ∈ lw_all := lw_g (lw_at lw_m9 198 rfl) rfl
theorem q2345 : (Jvm.Cond.soleField "GraftTreesModel" "tNext") ∈ lw_all := lw_g (lw_at lw_m9 199 rfl) rfl
theorem q2346 : (Jvm.Cond.laysFinal "GraftTreesModel" "GraftTreesModel" "tFrom" "[I") ∈ lw_all := lw_g (lw_at lw_m9 200 rfl) rfl
theorem q2347 : (Jvm.Cond.soleField "GraftTreesModel" "tFrom") ∈ lw_all := lw_g (lw_at lw_m9 201 rfl) rfl
theorem q2348 : (Jvm.Cond.laysFinal "GraftTreesModel" "GraftTreesModel" "tTo" "[I") ∈ lw_all := lw_g (lw_at lw_m9 202 rfl) rfl
theorem q2349 : (Jvm.Cond.soleField "GraftTreesModel" "tTo") ∈ lw_all := lw_g (lw_at lw_m9 203 rfl) rfl
theorem q2350 : (Jvm.Cond.laysFinal "GraftTreesModel" "GraftTreesModel" "tNumber" "[I") ∈ lw_all := lw_g (lw_at lw_m9 204 rfl) rfl
theorem q2351 : (Jvm.Cond.soleField "GraftTreesModel" "tNumber") ∈ lw_all := lw_g (lw_at lw_m9 205 rfl) rfl
theorem q2352 : (Jvm.Cond.laysFinal "GraftTreesModel" "GraftTreesModel" "tInside" "[Z") ∈ lw_all := lw_g (lw_at lw_m9 206 rfl) rfl
theorem q2353 : (Jvm.Cond.soleField "GraftTreesModel" "tInside") ∈ lw_all := lw_g (lw_at lw_m9 207 rfl) rfl
theorem q2354 : (Jvm.Cond.lays "GraftTreesModel" "GraftTreesModel" "tNodes" "I") ∈ lw_all := lw_g (lw_at lw_m9 208 rfl) rfl
theorem q2355 : (Jvm.Cond.soleField "GraftTreesModel" "tNodes") ∈ lw_all := lw_g (lw_at lw_m9 209 rfl) rfl
theorem q2356 : (Jvm.Cond.lays "GraftTreesModel" "GraftTreesModel" "tFirst" "I") ∈ lw_all := lw_g (lw_at lw_m9 210 rfl) rfl
theorem q2357 : (Jvm.Cond.soleField "GraftTreesModel" "tFirst") ∈ lw_all := lw_g (lw_at lw_m9 211 rfl) rfl
theorem q2358 : (Jvm.Cond.laysFinal "GraftTreesModel" "GraftTreesModel" "gFrom" "[I") ∈ lw_all := lw_g (lw_at lw_m9 212 rfl) rfl
theorem q2359 : (Jvm.Cond.soleField "GraftTreesModel" "gFrom") ∈ lw_all := lw_g (lw_at lw_m9 213 rfl) rfl
theorem q2360 : (Jvm.Cond.laysFinal "GraftTreesModel" "GraftTreesModel" "gTo" "[I") ∈ lw_all := lw_g (lw_at lw_m9 214 rfl) rfl
theorem q2361 : (Jvm.Cond.soleField "GraftTreesModel" "gTo") ∈ lw_all := lw_g (lw_at lw_m9 215 rfl) rfl
theorem q2362 : (Jvm.Cond.laysFinal "GraftTreesModel" "GraftTreesModel" "gFirst" "[I") ∈ lw_all := lw_g (lw_at lw_m9 216 rfl) rfl
theorem q2363 : (Jvm.Cond.soleField "GraftTreesModel" "gFirst") ∈ lw_all := lw_g (lw_at lw_m9 217 rfl) rfl
theorem q2364 : (Jvm.Cond.laysFinal "GraftTreesModel" "GraftTreesModel" "gLast" "[I") ∈ lw_all := lw_g (lw_at lw_m9 218 rfl) rfl
theorem q2365 : (Jvm.Cond.soleField "GraftTreesModel" "gLast") ∈ lw_all := lw_g (lw_at lw_m9 219 rfl) rfl
theorem q2366 : (Jvm.Cond.laysFinal "GraftTreesModel" "GraftTreesModel" "gParams" "[I") ∈ lw_all := lw_g (lw_at lw_m9 220 rfl) rfl
theorem q2367 : (Jvm.Cond.soleField "GraftTreesModel" "gParams") ∈ lw_all := lw_g (lw_at lw_m9 221 rfl) rfl
theorem q2368 : (Jvm.Cond.laysFinal "GraftTreesModel" "GraftTreesModel" "gBody" "[I") ∈ lw_all := lw_g (lw_at lw_m9 222 rfl) rfl
theorem q2369 : (Jvm.Cond.soleField "GraftTreesModel" "gBody") ∈ lw_all := lw_g (lw_at lw_m9 223 rfl) rfl
theorem q2370 : (Jvm.Cond.laysFinal "GraftTreesModel" "GraftTreesModel" "gLocals" "[I") ∈ lw_all := lw_g (lw_at lw_m9 224 rfl) rfl
theorem q2371 : (Jvm.Cond.soleField "GraftTreesModel" "gLocals") ∈ lw_all := lw_g (lw_at lw_m9 225 rfl) rfl
theorem q2372 : (Jvm.Cond.laysFinal "GraftTreesModel" "GraftTreesModel" "gLocalFrom" "[I") ∈ lw_all := lw_g (lw_at lw_m9 226 rfl) rfl
theorem q2373 : (Jvm.Cond.soleField "GraftTreesModel" "gLocalFrom") ∈ lw_all := lw_g (lw_at lw_m9 227 rfl) rfl
theorem q2374 : (Jvm.Cond.laysFinal "GraftTreesModel" "GraftTreesModel" "gLocalTo" "[I") ∈ lw_all := lw_g (lw_at lw_m9 228 rfl) rfl
theorem q2375 : (Jvm.Cond.soleField "GraftTreesModel" "gLocalTo") ∈ lw_all := lw_g (lw_at lw_m9 229 rfl) rfl
theorem q2376 : (Jvm.Cond.lays "GraftTreesModel" "GraftTreesModel" "told" "I") ∈ lw_all := lw_g (lw_at lw_m9 230 rfl) rfl
theorem q2377 : (Jvm.Cond.soleField "GraftTreesModel" "told") ∈ lw_all := lw_g (lw_at lw_m9 231 rfl) rfl
theorem q2378 : (Jvm.Cond.lays "GraftTreesModel" "GraftTreesModel" "roots" "I") ∈ lw_all := lw_g (lw_at lw_m9 232 rfl) rfl
theorem q2379 : (Jvm.Cond.soleField "GraftTreesModel" "roots") ∈ lw_all := lw_g (lw_at lw_m9 233 rfl) rfl
theorem q2380 : (Jvm.Cond.lays "GraftTreesModel" "GraftTreesModel" "functions" "I") ∈ lw_all := lw_g (lw_at lw_m9 234 rfl) rfl
theorem q2381 : (Jvm.Cond.soleField "GraftTreesModel" "functions") ∈ lw_all := lw_g (lw_at lw_m9 235 rfl) rfl
theorem q2382 : (Jvm.Cond.lays "GraftTreesModel" "GraftTreesModel" "nodes" "I") ∈ lw_all := lw_g (lw_at lw_m9 236 rfl) rfl
theorem q2383 : (Jvm.Cond.soleField "GraftTreesModel" "nodes") ∈ lw_all := lw_g (lw_at lw_m9 237 rfl) rfl
theorem q2384 : (Jvm.Cond.laysFinal "GraftTreesModel" "GraftTreesModel" "fName" "[I") ∈ lw_all := lw_g (lw_at lw_m9 238 rfl) rfl
theorem q2385 : (Jvm.Cond.soleField "GraftTreesModel" "fName") ∈ lw_all := lw_g (lw_at lw_m9 239 rfl) rfl
theorem q2386 : (Jvm.Cond.laysFinal "GraftTreesModel" "GraftTreesModel" "fRoot" "[I") ∈ lw_all := lw_g (lw_at lw_m10 0 rfl) rfl
theorem q2387 : (Jvm.Cond.soleField "GraftTreesModel" "fRoot") ∈ lw_all := lw_g (lw_at lw_m10 1 rfl) rfl
theorem q2388 : (Jvm.Cond.laysFinal "GraftTreesModel" "GraftTreesModel" "rFunction" "[I") ∈ lw_all := lw_g (lw_at lw_m10 2 rfl) rfl
theorem q2389 : (Jvm.Cond.soleField "GraftTreesModel" "rFunction") ∈ lw_all := lw_g (lw_at lw_m10 3 rfl) rfl
theorem q2390 : (Jvm.Cond.laysFinal "GraftTreesModel" "GraftTreesModel" "rBase" "[I") ∈ lw_all := lw_g (lw_at lw_m10 4 rfl) rfl
theorem q2391 : (Jvm.Cond.soleField "GraftTreesModel" "rBase") ∈ lw_all := lw_g (lw_at lw_m10 5 rfl) rfl
theorem q2392 : (Jvm.Cond.laysFinal "GraftTreesModel" "GraftTreesModel" "rNodes" "[I") ∈ lw_all := lw_g (lw_at lw_m10 6 rfl) rfl
theorem q2393 : (Jvm.Cond.soleField "GraftTreesModel" "rNodes") ∈ lw_all := lw_g (lw_at lw_m10 7 rfl) rfl
theorem q2394 : (Jvm.Cond.laysFinal "GraftTreesModel" "GraftTreesModel" "rParams" "[I") ∈ lw_all := lw_g (lw_at lw_m10 8 rfl) rfl
theorem q2395 : (Jvm.Cond.soleField "GraftTreesModel" "rParams") ∈ lw_all := lw_g (lw_at lw_m10 9 rfl) rfl
theorem q2396 : (Jvm.Cond.laysFinal "GraftTreesModel" "GraftTreesModel" "rLocals" "[I") ∈ lw_all := lw_g (lw_at lw_m10 10 rfl) rfl
theorem q2397 : (Jvm.Cond.soleField "GraftTreesModel" "rLocals") ∈ lw_all := lw_g (lw_at lw_m10 11 rfl) rfl
theorem q2398 : (Jvm.Cond.laysFinal "GraftTreesModel" "GraftTreesModel" "rBody" "[I") ∈ lw_all := lw_g (lw_at lw_m10 12 rfl) rfl
theorem q2399 : (Jvm.Cond.soleField "GraftTreesModel" "rBody") ∈ lw_all := lw_g (lw_at lw_m10 13 rfl) rfl
theorem q2400 : (Jvm.Cond.laysFinal "GraftTreesModel" "GraftTreesModel" "rHeat" "[I") ∈ lw_all := lw_g (lw_at lw_m10 14 rfl) rfl
theorem q2401 : (Jvm.Cond.soleField "GraftTreesModel" "rHeat") ∈ lw_all := lw_g (lw_at lw_m10 15 rfl) rfl
theorem q2402 : (Jvm.Cond.laysFinal "GraftTreesModel" "GraftTreesModel" "rCode" "[I") ∈ lw_all := lw_g (lw_at lw_m10 16 rfl) rfl
theorem q2403 : (Jvm.Cond.soleField "GraftTreesModel" "rCode") ∈ lw_all := lw_g (lw_at lw_m10 17 rfl) rfl
theorem q2404 : (Jvm.Cond.laysFinal "GraftTreesModel" "GraftTreesModel" "rCodes" "[I") ∈ lw_all := lw_g (lw_at lw_m10 18 rfl) rfl
theorem q2405 : (Jvm.Cond.soleField "GraftTreesModel" "rCodes") ∈ lw_all := lw_g (lw_at lw_m10 19 rfl) rfl
theorem q2406 : (Jvm.Cond.laysFinal "GraftTreesModel" "GraftTreesModel" "rChanges" "[I") ∈ lw_all := lw_g (lw_at lw_m10 20 rfl) rfl
theorem q2407 : (Jvm.Cond.soleField "GraftTreesModel" "rChanges") ∈ lw_all := lw_g (lw_at lw_m10 21 rfl) rfl
theorem q2408 : (Jvm.Cond.laysFinal "GraftTreesModel" "GraftTreesModel" "rSort" "[I") ∈ lw_all := lw_g (lw_at lw_m10 22 rfl) rfl
theorem q2409 : (Jvm.Cond.soleField "GraftTreesModel" "rSort") ∈ lw_all := lw_g (lw_at lw_m10 23 rfl) rfl
theorem q2410 : (Jvm.Cond.laysFinal "GraftTreesModel" "GraftTreesModel" "kind" "[I") ∈ lw_all := lw_g (lw_at lw_m10 24 rfl) rfl
theorem q2411 : (Jvm.Cond.soleField "GraftTreesModel" "kind") ∈ lw_all := lw_g (lw_at lw_m10 25 rfl) rfl
theorem q2412 : (Jvm.Cond.laysFinal "GraftTreesModel" "GraftTreesModel" "place" "[I") ∈ lw_all := lw_g (lw_at lw_m10 26 rfl) rfl
theorem q2413 : (Jvm.Cond.soleField "GraftTreesModel" "place") ∈ lw_all := lw_g (lw_at lw_m10 27 rfl) rfl
theorem q2414 : (Jvm.Cond.laysFinal "GraftTreesModel" "GraftTreesModel" "a" "[I") ∈ lw_all := lw_g (lw_at lw_m10 28 rfl) rfl
theorem q2415 : (Jvm.Cond.soleField "GraftTreesModel" "a") ∈ lw_all := lw_g (lw_at lw_m10 29 rfl) rfl
theorem q2416 : (Jvm.Cond.laysFinal "GraftTreesModel" "GraftTreesModel" "b" "[I") ∈ lw_all := lw_g (lw_at lw_m10 30 rfl) rfl
theorem q2417 : (Jvm.Cond.soleField "GraftTreesModel" "b") ∈ lw_all := lw_g (lw_at lw_m10 31 rfl) rfl
theorem q2418 : (Jvm.Cond.laysFinal "GraftTreesModel" "GraftTreesModel" "c" "[I") ∈ lw_all := lw_g (lw_at lw_m10 32 rfl) rfl
theorem q2419 : (Jvm.Cond.soleField "GraftTreesModel" "c") ∈ lw_all := lw_g (lw_at lw_m10 33 rfl) rfl
theorem q2420 : (Jvm.Cond.laysFinal "GraftTreesModel" "GraftTreesModel" "next" "[I") ∈ lw_all := lw_g (lw_at lw_m10 34 rfl) rfl
theorem q2421 : (Jvm.Cond.soleField "GraftTreesModel" "next") ∈ lw_all := lw_g (lw_at lw_m10 35 rfl) rfl
theorem q2422 : (Jvm.Cond.laysFinal "GraftTreesModel" "GraftTreesModel" "rootOf" "[I") ∈ lw_all := lw_g (lw_at lw_m10 36 rfl) rfl
theorem q2423 : (Jvm.Cond.soleField "GraftTreesModel" "rootOf") ∈ lw_all := lw_g (lw_at lw_m10 37 rfl) rfl
theorem q2424 : (Jvm.Cond.laysFinal "GraftTreesModel" "GraftTreesModel" "local" "[I") ∈ lw_all := lw_g (lw_at lw_m10 38 rfl) rfl
theorem q2425 : (Jvm.Cond.soleField "GraftTreesModel" "local") ∈ lw_all := lw_g (lw_at lw_m10 39 rfl) rfl
theorem q2426 : (Jvm.Cond.laysFinal "GraftTreesModel" "GraftTreesModel" "tag" "[I") ∈ lw_all := lw_g (lw_at lw_m10 40 rfl) rfl
theorem q2427 : (Jvm.Cond.soleField "GraftTreesModel" "tag") ∈ lw_all := lw_g (lw_at lw_m10 41 rfl) rfl
theorem q2428 : (Jvm.Cond.laysFinal "GraftTreesModel" "GraftTreesModel" "value" "[J") ∈ lw_all := lw_g (lw_at lw_m10 42 rfl) rfl
theorem q2429 : (Jvm.Cond.soleField "GraftTreesModel" "value") ∈ lw_all := lw_g (lw_at lw_m10 43 rfl) rfl
theorem q2430 : (Jvm.Cond.laysFinal "GraftTreesModel" "GraftTreesModel" "state" "[I") ∈ lw_all := lw_g (lw_at lw_m10 44 rfl) rfl
theorem q2431 : (Jvm.Cond.soleField "GraftTreesModel" "state") ∈ lw_all := lw_g (lw_at lw_m10 45 rfl) rfl
theorem q2432 : (Jvm.Cond.laysFinal "GraftTreesModel" "GraftTreesModel" "gone" "[I") ∈ lw_all := lw_g (lw_at lw_m10 46 rfl) rfl
theorem q2433 : (Jvm.Cond.soleField "GraftTreesModel" "gone") ∈ lw_all := lw_g (lw_at lw_m10 47 rfl) rfl
theorem q2434 : (Jvm.Cond.laysFinal "GraftTreesModel" "GraftTreesModel" "changes" "[I") ∈ lw_all := lw_g (lw_at lw_m10 48 rfl) rfl
theorem q2435 : (Jvm.Cond.soleField "GraftTreesModel" "changes") ∈ lw_all := lw_g (lw_at lw_m10 49 rfl) rfl
theorem q2436 : (Jvm.Cond.laysFinal "GraftTreesModel" "GraftTreesModel" "entries" "[I") ∈ lw_all := lw_g (lw_at lw_m10 50 rfl) rfl
theorem q2437 : (Jvm.Cond.soleField "GraftTreesModel" "entries") ∈ lw_all := lw_g (lw_at lw_m10 51 rfl) rfl
theorem q2438 : (Jvm.Cond.laysFinal "GraftTreesModel" "GraftTreesModel" "entry" "[I") ∈ lw_all := lw_g (lw_at lw_m10 52 rfl) rfl
theorem q2439 : (Jvm.Cond.soleField "GraftTreesModel" "entry") ∈ lw_all := lw_g (lw_at lw_m10 53 rfl) rfl
theorem q2440 : (Jvm.Cond.laysFinal "GraftTreesModel" "GraftTreesModel" "entryAt" "[I") ∈ lw_all := lw_g (lw_at lw_m10 54 rfl) rfl
theorem q2441 : (Jvm.Cond.soleField "GraftTreesModel" "entryAt") ∈ lw_all := lw_g (lw_at lw_m10 55 rfl) rfl
theorem q2442 : (Jvm.Cond.laysFinal "GraftTreesModel" "GraftTreesModel" "behind" "[I") ∈ lw_all := lw_g (lw_at lw_m10 56 rfl) rfl
theorem q2443 : (Jvm.Cond.soleField "GraftTreesModel" "behind") ∈ lw_all := lw_g (lw_at lw_m10 57 rfl) rfl
theorem q2444 : (Jvm.Cond.laysFinal "GraftTreesModel" "GraftTreesModel" "queue" "[I") ∈ lw_all := lw_g (lw_at lw_m10 58 rfl) rfl
theorem q2445 : (Jvm.Cond.soleField "GraftTreesModel" "queue") ∈ lw_all := lw_g (lw_at lw_m10 59 rfl) rfl
theorem q2446 : (Jvm.Cond.lays "GraftTreesModel" "GraftTreesModel" "queued" "I") ∈ lw_all := lw_g (lw_at lw_m10 60 rfl) rfl
theorem q2447 : (Jvm.Cond.soleField "GraftTreesModel" "queued") ∈ lw_all := lw_g (lw_at lw_m10 61 rfl) rfl
theorem q2448 : (Jvm.Cond.laysFinal "GraftTreesModel" "GraftTreesModel" "named" "[I") ∈ lw_all := lw_g (lw_at lw_m10 62 rfl) rfl
theorem q2449 : (Jvm.Cond.soleField "GraftTreesModel" "named") ∈ lw_all := lw_g (lw_at lw_m10 63 rfl) rfl
theorem q2450 : (Jvm.Cond.laysFinal "GraftTreesModel" "GraftTreesModel" "kindNames" "[J") ∈ lw_all := lw_g (lw_at lw_m10 64 rfl) rfl
theorem q2451 : (Jvm.Cond.soleField "GraftTreesModel" "kindNames") ∈ lw_all := lw_g (lw_at lw_m10 65 rfl) rfl
theorem q2452 : (Jvm.Cond.lays "GraftTreesModel" "GraftTreesModel" "trueName" "J") ∈ lw_all := lw_g (lw_at lw_m10 66 rfl) rfl
theorem q2453 : (Jvm.Cond.soleField "GraftTreesModel" "trueName") ∈ lw_all := lw_g (lw_at lw_m10 67 rfl) rfl
theorem q2454 : (Jvm.Cond.lays "GraftTreesModel" "GraftTreesModel" "falseName" "J") ∈ lw_all := lw_g (lw_at lw_m10 68 rfl) rfl
theorem q2455 : (Jvm.Cond.soleField "GraftTreesModel" "falseName") ∈ lw_all := lw_g (lw_at lw_m10 69 rfl) rfl
theorem q2456 : (Jvm.Cond.lays "GraftTreesModel" "GraftTreesModel" "shapes" "I") ∈ lw_all := lw_g (lw_at lw_m10 70 rfl) rfl
theorem q2457 : (Jvm.Cond.soleField "GraftTreesModel" "shapes") ∈ lw_all := lw_g (lw_at lw_m10 71 rfl) rfl
theorem q2458 : (Jvm.Cond.lays "GraftTreesModel" "GraftTreesModel" "objects" "I") ∈ lw_all := lw_g (lw_at lw_m10 72 rfl) rfl
theorem q2459 : (Jvm.Cond.soleField "GraftTreesModel" "objects") ∈ lw_all := lw_g (lw_at lw_m10 73 rfl) rfl
theorem q2460 : (Jvm.Cond.laysFinal "GraftTreesModel" "GraftTreesModel" "shapeParent" "[I") ∈ lw_all := lw_g (lw_at lw_m10 74 rfl) rfl
theorem q2461 : (Jvm.Cond.soleField "GraftTreesModel" "shapeParent") ∈ lw_all := lw_g (lw_at lw_m10 75 rfl) rfl
theorem q2462 : (Jvm.Cond.laysFinal "GraftTreesModel" "GraftTreesModel" "shapeSort" "[I") ∈ lw_all := lw_g (lw_at lw_m10 76 rfl) rfl
theorem q2463 : (Jvm.Cond.soleField "GraftTreesModel" "shapeSort") ∈ lw_all := lw_g (lw_at lw_m10 77 rfl) rfl
theorem q2464 : (Jvm.Cond.laysFinal "GraftTreesModel" "GraftTreesModel" "shapeHeir" "[I") ∈ lw_all := lw_g (lw_at lw_m10 78 rfl) rfl
theorem q2465 : (Jvm.Cond.soleField "GraftTreesModel" "shapeHeir") ∈ lw_all := lw_g (lw_at lw_m10 79 rfl) rfl
theorem q2466 : (Jvm.Cond.laysFinal "GraftTreesModel" "GraftTreesModel" "shapeSize" "[I") ∈ lw_all := lw_g (lw_at lw_m10 80 rfl) rfl
theorem q2467 : (Jvm.Cond.soleField "GraftTreesModel" "shapeSize") ∈ lw_all := lw_g (lw_at lw_m10 81 rfl) rfl
theorem q2468 : (Jvm.Cond.laysFinal "GraftTreesModel" "GraftTreesModel" "shapeName" "[I") ∈ lw_all := lw_g (lw_at lw_m10 82 rfl) rfl
theorem q2469 : (Jvm.Cond.soleField "GraftTreesModel" "shapeName") ∈ lw_all := lw_g (lw_at lw_m10 83 rfl) rfl
theorem q2470 : (Jvm.Cond.laysFinal "GraftTreesModel" "GraftTreesModel" "shapeOf" "[I") ∈ lw_all := lw_g (lw_at lw_m10 84 rfl) rfl
theorem q2471 : (Jvm.Cond.soleField "GraftTreesModel" "shapeOf") ∈ lw_all := lw_g (lw_at lw_m10 85 rfl) rfl
theorem q2472 : (Jvm.Cond.laysFinal "GraftTreesModel" "GraftTreesModel" "held" "[I") ∈ lw_all := lw_g (lw_at lw_m10 86 rfl) rfl
theorem q2473 : (Jvm.Cond.soleField "GraftTreesModel" "held") ∈ lw_all := lw_g (lw_at lw_m10 87 rfl) rfl
theorem q2474 : (Jvm.Cond.laysFinal "GraftTreesModel" "GraftTreesModel" "heldValue" "[J") ∈ lw_all := lw_g (lw_at lw_m10 88 rfl) rfl
theorem q2475 : (Jvm.Cond.soleField "GraftTreesModel" "heldValue") ∈ lw_all := lw_g (lw_at lw_m10 89 rfl) rfl
theorem q2476 : (Jvm.Cond.lays "GraftTreesModel" "GraftTreesModel" "codes" "I") ∈ lw_all := lw_g (lw_at lw_m10 90 rfl) rfl
theorem q2477 : (Jvm.Cond.soleField "GraftTreesModel" "codes") ∈ lw_all := lw_g (lw_at lw_m10 91 rfl) rfl
theorem q2478 : (Jvm.Cond.laysFinal "GraftTreesModel" "GraftTreesModel" "cRoot" "[I") ∈ lw_all := lw_g (lw_at lw_m10 92 rfl) rfl
theorem q2479 : (Jvm.Cond.soleField "GraftTreesModel" "cRoot") ∈ lw_all := lw_g (lw_at lw_m10 93 rfl) rfl
theorem q2480 : (Jvm.Cond.laysFinal "GraftTreesModel" "GraftTreesModel" "cUnits" "[I") ∈ lw_all := lw_g (lw_at lw_m10 94 rfl) rfl
theorem q2481 : (Jvm.Cond.soleField "GraftTreesModel" "cUnits") ∈ lw_all := lw_g (lw_at lw_m10 95 rfl) rfl
theorem q2482 : (Jvm.Cond.laysFinal "GraftTreesModel" "GraftTreesModel" "cNodes" "[I") ∈ lw_all := lw_g (lw_at lw_m10 96 rfl) rfl
theorem q2483 : (Jvm.Cond.soleField "GraftTreesModel" "cNodes") ∈ lw_all := lw_g (lw_at lw_m10 97 rfl) rfl
theorem q2484 : (Jvm.Cond.laysFinal "GraftTreesModel" "GraftTreesModel" "cGuards" "[I") ∈ lw_all := lw_g (lw_at lw_m10 98 rfl) rfl
theorem q2485 : (Jvm.Cond.soleField "GraftTreesModel" "cGuards") ∈ lw_all := lw_g (lw_at lw_m10 99 rfl) rfl
theorem q2486 : (Jvm.Cond.laysFinal "GraftTreesModel" "GraftTreesModel" "cEntered" "[I") ∈ lw_all := lw_g (lw_at lw_m10 100 rfl) rfl
theorem q2487 : (Jvm.Cond.soleField "GraftTreesModel" "cEntered") ∈ lw_all := lw_g (lw_at lw_m10 101 rfl) rfl
theorem q2488 : (Jvm.Cond.laysFinal "GraftTreesModel" "GraftTreesModel" "cExits" "[I") ∈ lw_all := lw_g (lw_at lw_m10 102 rfl) rfl
theorem q2489 : (Jvm.Cond.soleField "GraftTreesModel" "cExits") ∈ lw_all := lw_g (lw_at lw_m10 103 rfl) rfl
theorem q2490 : (Jvm.Cond.laysFinal "GraftTreesModel" "GraftTreesModel" "cFalls" "[I") ∈ lw_all := lw_g (lw_at lw_m10 104 rfl) rfl
theorem q2491 : (Jvm.Cond.soleField "GraftTreesModel" "cFalls") ∈ lw_all := lw_g (lw_at lw_m10 105 rfl) rfl
theorem q2492 : (Jvm.Cond.laysFinal "GraftTreesModel" "GraftTreesModel" "cValid" "[Z") ∈ lw_all := lw_g (lw_at lw_m10 106 rfl) rfl
theorem q2493 : (Jvm.Cond.soleField "GraftTreesModel" "cValid") ∈ lw_all := lw_g (lw_at lw_m10 107 rfl) rfl
theorem q2494 : (Jvm.Cond.laysFinal "GraftTreesModel" "GraftTreesModel" "uRoot" "[I") ∈ lw_all := lw_g (lw_at lw_m10 108 rfl) rfl
theorem q2495 : (Jvm.Cond.soleField "GraftTreesModel" "uRoot") ∈ lw_all := lw_g (lw_at lw_m10 109 rfl) rfl
theorem q2496 : (Jvm.Cond.laysFinal "GraftTreesModel" "GraftTreesModel" "uIn" "[I") ∈ lw_all := lw_g (lw_at lw_m10 110 rfl) rfl
theorem q2497 : (Jvm.Cond.soleField "GraftTreesModel" "uIn") ∈ lw_all := lw_g (lw_at lw_m10 111 rfl) rfl
theorem q2498 : (Jvm.Cond.laysFinal "GraftTreesModel" "GraftTreesModel" "uNode" "[I") ∈ lw_all := lw_g (lw_at lw_m10 112 rfl) rfl
theorem q2499 : (Jvm.Cond.soleField "GraftTreesModel" "uNode") ∈ lw_all := lw_g (lw_at lw_m10 113 rfl) rfl
theorem q2500 : (Jvm.Cond.laysFinal "GraftTreesModel" "GraftTreesModel" "uDepth" "[I") ∈ lw_all := lw_g (lw_at lw_m10 114 rfl) rfl
theorem q2501 : (Jvm.Cond.soleField "GraftTreesModel" "uDepth") ∈ lw_all := lw_g (lw_at lw_m10 115 rfl) rfl
theorem q2502 : (Jvm.Cond.lays "GraftTreesModel" "GraftTreesModel" "runState" "I") ∈ lw_all := lw_g (lw_at lw_m10 116 rfl) rfl
theorem q2503 : (Jvm.Cond.soleField "GraftTreesModel" "runState") ∈ lw_all := lw_g (lw_at lw_m10 117 rfl) rfl
theorem q2504 : (Jvm.Cond.lays "GraftTreesModel" "GraftTreesModel" "steps" "I") ∈ lw_all := lw_g (lw_at lw_m10 118 rfl) rfl
theorem q2505 : (Jvm.Cond.soleField "GraftTreesModel" "steps") ∈ lw_all := lw_g (lw_at lw_m10 119 rfl) rfl
theorem q2506 : (Jvm.Cond.lays "GraftTreesModel" "GraftTreesModel" "made" "I") ∈ lw_all := lw_g (lw_at lw_m10 120 rfl) rfl
theorem q2507 : (Jvm.Cond.soleField "GraftTreesModel" "made") ∈ lw_all := lw_g (lw_at lw_m10 121 rfl) rfl
theorem q2508 : (Jvm.Cond.lays "GraftTreesModel" "GraftTreesModel" "most" "I") ∈ lw_all := lw_g (lw_at lw_m10 122 rfl) rfl
theorem q2509 : (Jvm.Cond.soleField "GraftTreesModel" "most") ∈ lw_all := lw_g (lw_at lw_m10 123 rfl) rfl
theorem q2510 : (Jvm.Cond.lays "GraftTreesModel" "GraftTreesModel" "acts" "I") ∈ lw_all := lw_g (lw_at lw_m10 124 rfl) rfl
theorem q2511 : (Jvm.Cond.soleField "GraftTreesModel" "acts") ∈ lw_all := lw_g (lw_at lw_m10 125 rfl) rfl
theorem q2512 : (Jvm.Cond.lays "GraftTreesModel" "GraftTreesModel" "mostActs" "I") ∈ lw_all := lw_g (lw_at lw_m10 126 rfl) rfl
theorem q2513 : (Jvm.Cond.soleField "GraftTreesModel" "mostActs") ∈ lw_all := lw_g (lw_at lw_m10 127 rfl) rfl
theorem q2514 : (Jvm.Cond.lays "GraftTreesModel" "GraftTreesModel" "frames" "I") ∈ lw_all := lw_g (lw_at lw_m10 128 rfl) rfl
theorem q2515 : (Jvm.Cond.soleField "GraftTreesModel" "frames") ∈ lw_all := lw_g (lw_at lw_m10 129 rfl) rfl
theorem q2516 : (Jvm.Cond.lays "GraftTreesModel" "GraftTreesModel" "tasks" "I") ∈ lw_all := lw_g (lw_at lw_m10 130 rfl) rfl
theorem q2517 : (Jvm.Cond.soleField "GraftTreesModel" "tasks") ∈ lw_all := lw_g (lw_at lw_m10 131 rfl) rfl
theorem q2518 : (Jvm.Cond.lays "GraftTreesModel" "GraftTreesModel" "piled" "I") ∈ lw_all := lw_g (lw_at lw_m10 132 rfl) rfl
theorem q2519 : (Jvm.Cond.soleField "GraftTreesModel" "piled") ∈ lw_all := lw_g (lw_at lw_m10 133 rfl) rfl
theorem q2520 : (Jvm.Cond.lays "GraftTreesModel" "GraftTreesModel" "outSize" "I") ∈ lw_all := lw_g (lw_at lw_m10 134 rfl) rfl
theorem q2521 : (Jvm.Cond.soleField "GraftTreesModel" "outSize") ∈ lw_all := lw_g (lw_at lw_m10 135 rfl) rfl
theorem q2522 : (Jvm.Cond.lays "GraftTreesModel" "GraftTreesModel" "paused" "Z") ∈ lw_all := lw_g (lw_at lw_m10 136 rfl) rfl
theorem q2523 : (Jvm.Cond.soleField "GraftTreesModel" "paused") ∈ lw_all := lw_g (lw_at lw_m10 137 rfl) rfl
theorem q2524 : (Jvm.Cond.lays "GraftTreesModel" "GraftTreesModel" "errorIs" "I") ∈ lw_all := lw_g (lw_at lw_m10 138 rfl) rfl
theorem q2525 : (Jvm.Cond.soleField "GraftTreesModel" "errorIs") ∈ lw_all := lw_g (lw_at lw_m10 139 rfl) rfl
theorem q2526 : (Jvm.Cond.lays "GraftTreesModel" "GraftTreesModel" "errorRoot" "I") ∈ lw_all := lw_g (lw_at lw_m10 140 rfl) rfl
theorem q2527 : (Jvm.Cond.soleField "GraftTreesModel" "errorRoot") ∈ lw_all := lw_g (lw_at lw_m10 141 rfl) rfl
theorem q2528 : (Jvm.Cond.lays "GraftTreesModel" "GraftTreesModel" "errorNode" "I") ∈ lw_all := lw_g (lw_at lw_m10 142 rfl) rfl
theorem q2529 : (Jvm.Cond.soleField "GraftTreesModel" "errorNode") ∈ lw_all := lw_g (lw_at lw_m10 143 rfl) rfl
theorem q2530 : (Jvm.Cond.laysFinal "GraftTreesModel" "GraftTreesModel" "actRoot" "[I") ∈ lw_all := lw_g (lw_at lw_m10 144 rfl) rfl
theorem q2531 : (Jvm.Cond.soleField "GraftTreesModel" "actRoot") ∈ lw_all := lw_g (lw_at lw_m10 145 rfl) rfl
theorem q2532 : (Jvm.Cond.laysFinal "GraftTreesModel" "GraftTreesModel" "actCode" "[I") ∈ lw_all := lw_g (lw_at lw_m10 146 rfl) rfl
theorem q2533 : (Jvm.Cond.soleField "GraftTreesModel" "actCode") ∈ lw_all := lw_g (lw_at lw_m10 147 rfl) rfl
theorem q2534 : (Jvm.Cond.laysFinal "GraftTreesModel" "GraftTreesModel" "actUnit" "[I") ∈ lw_all := lw_g (lw_at lw_m10 148 rfl) rfl
theorem q2535 : (Jvm.Cond.soleField "GraftTreesModel" "actUnit") ∈ lw_all := lw_g (lw_at lw_m10 149 rfl) rfl
theorem q2536 : (Jvm.Cond.laysFinal "GraftTreesModel" "GraftTreesModel" "actFrame" "[I") ∈ lw_all := lw_g (lw_at lw_m10 150 rfl) rfl
theorem q2537 : (Jvm.Cond.soleField "GraftTreesModel" "actFrame") ∈ lw_all := lw_g (lw_at lw_m10 151 rfl) rfl
theorem q2538 : (Jvm.Cond.laysFinal "GraftTreesModel" "GraftTreesModel" "actTasks" "[I") ∈ lw_all := lw_g (lw_at lw_m10 152 rfl) rfl
theorem q2539 : (Jvm.Cond.soleField "GraftTreesModel" "actTasks") ∈ lw_all := lw_g (lw_at lw_m10 153 rfl) rfl
theorem q2540 : (Jvm.Cond.laysFinal "GraftTreesModel" "GraftTreesModel" "actPile" "[I") ∈ lw_all := lw_g (lw_at lw_m10 154 rfl) rfl
theorem q2541 : (Jvm.Cond.soleField "GraftTreesModel" "actPile") ∈ lw_all := lw_g (lw_at lw_m10 155 rfl) rfl
theorem q2542 : (Jvm.Cond.laysFinal "GraftTreesModel" "GraftTreesModel" "actInlined" "[Z") ∈ lw_all := lw_g (lw_at lw_m10 156 rfl) rfl
theorem q2543 : (Jvm.Cond.soleField "GraftTreesModel" "actInlined") ∈ lw_all := lw_g (lw_at lw_m10 157 rfl) rfl
theorem q2544 : (Jvm.Cond.laysFinal "GraftTreesModel" "GraftTreesModel" "localTag" "[I") ∈ lw_all := lw_g (lw_at lw_m10 158 rfl) rfl
theorem q2545 : (Jvm.Cond.soleField "GraftTreesModel" "localTag") ∈ lw_all := lw_g (lw_at lw_m10 159 rfl) rfl
theorem q2546 : (Jvm.Cond.laysFinal "GraftTreesModel" "GraftTreesModel" "localIs" "[I") ∈ lw_all := lw_g (lw_at lw_m10 160 rfl) rfl
theorem q2547 : (Jvm.Cond.soleField "GraftTreesModel" "localIs") ∈ lw_all := lw_g (lw_at lw_m10 161 rfl) rfl
theorem q2548 : (Jvm.Cond.laysFinal "GraftTreesModel" "GraftTreesModel" "localValue" "[J") ∈ lw_all := lw_g (lw_at lw_m10 162 rfl) rfl
theorem q2549 : (Jvm.Cond.soleField "GraftTreesModel" "localValue") ∈ lw_all := lw_g (lw_at lw_m10 163 rfl) rfl
theorem q2550 : (Jvm.Cond.laysFinal "GraftTreesModel" "GraftTreesModel" "taskNode" "[I") ∈ lw_all := lw_g (lw_at lw_m10 164 rfl) rfl
theorem q2551 : (Jvm.Cond.soleField "GraftTreesModel" "taskNode") ∈ lw_all := lw_g (lw_at lw_m10 165 rfl) rfl
theorem q2552 : (Jvm.Cond.laysFinal "GraftTreesModel" "GraftTreesModel" "taskStage" "[I") ∈ lw_all := lw_g (lw_at lw_m10 166 rfl) rfl
theorem q2553 : (Jvm.Cond.soleField "GraftTreesModel" "taskStage") ∈ lw_all := lw_g (lw_at lw_m10 167 rfl) rfl
theorem q2554 : (Jvm.Cond.laysFinal "GraftTreesModel" "GraftTreesModel" "taskNext" "[I") ∈ lw_all := lw_g (lw_at lw_m10 168 rfl) rfl
theorem q2555 : (Jvm.Cond.soleField "GraftTreesModel" "taskNext") ∈ lw_all := lw_g (lw_at lw_m10 169 rfl) rfl
theorem q2556 : (Jvm.Cond.laysFinal "GraftTreesModel" "GraftTreesModel" "pileTag" "[I") ∈ lw_all := lw_g (lw_at lw_m10 170 rfl) rfl
theorem q2557 : (Jvm.Cond.soleField "GraftTreesModel" "pileTag") ∈ lw_all := lw_g (lw_at lw_m10 171 rfl) rfl
theorem q2558 : (Jvm.Cond.laysFinal "GraftTreesModel" "GraftTreesModel" "pileValue" "[J") ∈ lw_all := lw_g (lw_at lw_m10 172 rfl) rfl
theorem q2559 : (Jvm.Cond.soleField "GraftTreesModel" "pileValue") ∈ lw_all := lw_g (lw_at lw_m10 173 rfl) rfl
theorem q2560 : (Jvm.Cond.laysFinal "GraftTreesModel" "GraftTreesModel" "out" "[B") ∈ lw_all := lw_g (lw_at lw_m10 174 rfl) rfl
theorem q2561 : (Jvm.Cond.soleField "GraftTreesModel" "out") ∈ lw_all := lw_g (lw_at lw_m10 175 rfl) rfl
theorem q2562 : (Jvm.Cond.laysFinal "GraftTreesModel" "GraftTreesModel" "total" "[I") ∈ lw_all := lw_g (lw_at lw_m10 176 rfl) rfl
theorem q2563 : (Jvm.Cond.soleField "GraftTreesModel" "total") ∈ lw_all := lw_g (lw_at lw_m10 177 rfl) rfl
theorem q2564 : (Jvm.Cond.lays "GraftTreesModel" "GraftTreesModel" "resultTag" "I") ∈ lw_all := lw_g (lw_at lw_m10 178 rfl) rfl
theorem q2565 : (Jvm.Cond.soleField "GraftTreesModel" "resultTag") ∈ lw_all := lw_g (lw_at lw_m10 179 rfl) rfl
theorem q2566 : (Jvm.Cond.lays "GraftTreesModel" "GraftTreesModel" "resultValue" "J") ∈ lw_all := lw_g (lw_at lw_m10 180 rfl) rfl
theorem q2567 : (Jvm.Cond.soleField "GraftTreesModel" "resultValue") ∈ lw_all := lw_g (lw_at lw_m10 181 rfl) rfl
theorem q2568 : (Jvm.Cond.laysFinal "GraftTreesModel" "GraftTreesModel" "line" "[B") ∈ lw_all := lw_g (lw_at lw_m10 182 rfl) rfl
theorem q2569 : (Jvm.Cond.soleField "GraftTreesModel" "line") ∈ lw_all := lw_g (lw_at lw_m10 183 rfl) rfl
theorem q2570 : (Jvm.Cond.lays "GraftTreesModel" "GraftTreesModel" "lined" "I") ∈ lw_all := lw_g (lw_at lw_m10 184 rfl) rfl
theorem q2571 : (Jvm.Cond.soleField "GraftTreesModel" "lined") ∈ lw_all := lw_g (lw_at lw_m10 185 rfl) rfl
theorem q2572 : (Jvm.Cond.laysFinal "GraftTreesModel" "GraftTreesModel" "tape" "[B") ∈ lw_all := lw_g (lw_at lw_m10 186 rfl) rfl
theorem q2573 : (Jvm.Cond.soleField "GraftTreesModel" "tape") ∈ lw_all := lw_g (lw_at lw_m10 187 rfl) rfl
theorem q2574 : (Jvm.Cond.lays "GraftTreesModel" "GraftTreesModel" "taped" "I") ∈ lw_all := lw_g (lw_at lw_m10 188 rfl) rfl
theorem q2575 : (Jvm.Cond.soleField "GraftTreesModel" "taped") ∈ lw_all := lw_g (lw_at lw_m10 189 rfl) rfl
theorem q2576 : (Jvm.Cond.lays "GraftTreesModel" "GraftTreesModel" "loadFault" "I") ∈ lw_all := lw_g (lw_at lw_m10 190 rfl) rfl
theorem q2577 : (Jvm.Cond.soleField "GraftTreesModel" "loadFault") ∈ lw_all := lw_g (lw_at lw_m10 191 rfl) rfl
theorem q2578 : (Jvm.Cond.lays "GraftTreesModel" "GraftTreesModel" "loadPlace" "I") ∈ lw_all := lw_g (lw_at lw_m10 192 rfl) rfl
theorem q2579 : (Jvm.Cond.soleField "GraftTreesModel" "loadPlace") ∈ lw_all := lw_g (lw_at lw_m10 193 rfl) rfl
theorem q2580 : (Jvm.Cond.superclass "GraftTreesModel" "java/lang/Object") ∈ lw_all := lw_g (lw_at lw_m10 194 rfl) rfl
theorem q2582 : (Jvm.Cond.instanceMethod ({ cls := "GraftTreesModel", name := "compile", desc := "()I" } : Jvm.MethodName)) ∈ lw_all := lw_g (lw_at lw_m10 196 rfl) rfl
theorem q2583 : (Jvm.Cond.selects "GraftTreesModel" ({ cls := "GraftTreesModel", name := "compile", desc := "()I" } : Jvm.MethodName) ({ cls := "GraftTreesModel", name := "compile", desc := "()I" } : Jvm.MethodName)) ∈ lw_all := lw_g (lw_at lw_m10 197 rfl) rfl
theorem q2584 : (Jvm.Cond.code ({ cls := "GraftTreesModel", name := "compile", desc := "()I" } : Jvm.MethodName) prog_11_method_81_code (3 : Nat) (Option.some Jvm.ClassFile.FieldType.int)) ∈ lw_all := lw_g (lw_at lw_m10 198 rfl) rfl
theorem q2585 : (Jvm.Cond.methodLink "GraftTreesModel" (665 : Nat) ({ cls := "GraftTreesModel", name := "isNewest", desc := "(I)Z" } : Jvm.MethodName)) ∈ lw_all := lw_g (lw_at lw_m10 199 rfl) rfl
theorem q2586 : (Jvm.Cond.privateMethod ({ cls := "GraftTreesModel", name := "isNewest", desc := "(I)Z" } : Jvm.MethodName)) ∈ lw_tbl := lw_at lw_m10 200 rfl
theorem q2587 : (Jvm.Cond.instanceMethod ({ cls := "GraftTreesModel", name := "isNewest", desc := "(I)Z" } : Jvm.MethodName)) ∈ lw_all := lw_g (lw_at lw_m10 201 rfl) rfl
theorem q2588 : (Jvm.Cond.code ({ cls := "GraftTreesModel", name := "isNewest", desc := "(I)Z" } : Jvm.MethodName) prog_11_method_55_code (2 : Nat) (Option.some Jvm.ClassFile.FieldType.boolean)) ∈ lw_all := lw_g (lw_at lw_m10 202 rfl) rfl
theorem q2589 : (Jvm.Cond.methodLink "GraftTreesModel" (682 : Nat) ({ cls := "GraftTreesModel", name := "makeCode", desc := "(I)I" } : Jvm.MethodName)) ∈ lw_all := lw_g (lw_at lw_m10 203 rfl) rfl
theorem q2590 : (Jvm.Cond.privateMethod ({ cls := "GraftTreesModel", name := "makeCode", desc := "(I)I" } : Jvm.MethodName)) ∈ lw_tbl := lw_at lw_m10 204 rfl
theorem q2591 : (Jvm.Cond.instanceMethod ({ cls := "GraftTreesModel", name := "makeCode", desc := "(I)I" } : Jvm.MethodName)) ∈ lw_all := lw_g (lw_at lw_m10 205 rfl) rfl
theorem q2592 : (Jvm.Cond.code ({ cls := "GraftTreesModel", name := "makeCode", desc := "(I)I" } : Jvm.MethodName) prog_11_method_70_code (6 : Nat) (Option.some Jvm.ClassFile.FieldType.int)) ∈ lw_all := lw_g (lw_at lw_m10 206 rfl) rfl
theorem q2593 : (Jvm.Cond.methodLink "GraftTreesModel" (651 : Nat) ({ cls := "GraftTreesModel", name := "addUnit", desc := "(IIIII)V" } : Jvm.MethodName)) ∈ lw_all := lw_g (lw_at lw_m10 207 rfl) rfl
theorem q2594 : (Jvm.Cond.privateMethod ({ cls := "GraftTreesModel", name := "addUnit", desc := "(IIIII)V" } : Jvm.MethodName)) ∈ lw_tbl := lw_at lw_m10 208 rfl
theorem q2595 : (Jvm.Cond.instanceMethod ({ cls := "GraftTreesModel", name := "addUnit", desc := "(IIIII)V" } : Jvm.MethodName)) ∈ lw_all := lw_g (lw_at lw_m10 209 rfl) rfl
theorem q2596 : (Jvm.Cond.code ({ cls := "GraftTreesModel", name := "addUnit", desc := "(IIIII)V" } : Jvm.MethodName) prog_11_method_71_code (7 : Nat) (Option.none : Option Jvm.ClassFile.FieldType)) ∈ lw_all := lw_g (lw_at lw_m10 210 rfl) rfl
theorem q2597 : (Jvm.Cond.methodLink "GraftTreesModel" (658 : Nat) ({ cls := "GraftTreesModel", name := "guards", desc := "(I)I" } : Jvm.MethodName)) ∈ lw_all := lw_g (lw_at lw_m10 211 rfl) rfl
theorem q2598 : (Jvm.Cond.privateMethod ({ cls := "GraftTreesModel", name := "guards", desc := "(I)I" } : Jvm.MethodName)) ∈ lw_tbl := lw_at lw_m10 212 rfl
theorem q2599 : (Jvm.Cond.instanceMethod ({ cls := "GraftTreesModel", name := "guards", desc := "(I)I" } : Jvm.MethodName)) ∈ lw_all := lw_g (lw_at lw_m10 213 rfl) rfl
theorem q2600 : (Jvm.Cond.code ({ cls := "GraftTreesModel", name := "guards", desc := "(I)I" } : Jvm.MethodName) prog_11_method_74_code (3 : Nat) (Option.some Jvm.ClassFile.FieldType.int)) ∈ lw_all := lw_g (lw_at lw_m10 214 rfl) rfl
theorem q2601 : (Jvm.Cond.methodLink "GraftTreesModel" (668 : Nat) ({ cls := "GraftTreesModel", name := "isSure", desc := "(I)Z" } : Jvm.MethodName)) ∈ lw_all := lw_g (lw_at lw_m10 215 rfl) rfl
theorem q2602 : (Jvm.Cond.privateMethod ({ cls := "GraftTreesModel", name := "isSure", desc := "(I)Z" } : Jvm.MethodName)) ∈ lw_tbl := lw_at lw_m10 216 rfl
theorem q2603 : (Jvm.Cond.instanceMethod ({ cls := "GraftTreesModel", name := "isSure", desc := "(I)Z" } : Jvm.MethodName)) ∈ lw_all := lw_g (lw_at lw_m10 217 rfl) rfl
theorem q2604 : (Jvm.Cond.code ({ cls := "GraftTreesModel", name := "isSure", desc := "(I)Z" } : Jvm.MethodName) prog_11_method_73_code (3 : Nat) (Option.some Jvm.ClassFile.FieldType.boolean)) ∈ lw_all := lw_g (lw_at lw_m10 218 rfl) rfl
theorem q2605 : (Jvm.Cond.methodLink "GraftTreesModel" (671 : Nat) ({ cls := "java/lang/Math", name := "max", desc := "(II)I" } : Jvm.MethodName)) ∈ lw_all := lw_g (lw_at lw_m10 219 rfl) rfl
theorem q2606 : (Jvm.Cond.methodLink "GraftTreesModel" (661 : Nat) ({ cls := "GraftTreesModel", name := "mayLie", desc := "(III)Z" } : Jvm.MethodName)) ∈ lw_all := lw_g (lw_at lw_m10 220 rfl) rfl
theorem q2607 : (Jvm.Cond.privateMethod ({ cls := "GraftTreesModel", name := "mayLie", desc := "(III)Z" } : Jvm.MethodName)) ∈ lw_tbl := lw_at lw_m10 221 rfl
theorem q2608 : (Jvm.Cond.instanceMethod ({ cls := "GraftTreesModel", name := "mayLie", desc := "(III)Z" } : Jvm.MethodName)) ∈ lw_all := lw_g (lw_at lw_m10 222 rfl) rfl
theorem q2609 : (Jvm.Cond.code ({ cls := "GraftTreesModel", name := "mayLie", desc := "(III)Z" } : Jvm.MethodName) prog_11_method_72_code (5 : Nat) (Option.some Jvm.ClassFile.FieldType.boolean)) ∈ lw_all := lw_g (lw_at lw_m10 223 rfl) rfl
theorem q2611 : (Jvm.Cond.instanceMethod ({ cls := "GraftTreesModel", name := "feed", desc := "(IIIII)I" } : Jvm.MethodName)) ∈ lw_all := lw_g (lw_at lw_m10 225 rfl) rfl
theorem q2612 : (Jvm.Cond.selects "GraftTreesModel" ({ cls := "GraftTreesModel", name := "feed", desc := "(IIIII)I" } : Jvm.MethodName) ({ cls := "GraftTreesModel", name := "feed", desc := "(IIIII)I" } : Jvm.MethodName)) ∈ lw_all := lw_g (lw_at lw_m10 226 rfl) rfl
theorem q2613 : (Jvm.Cond.code ({ cls := "GraftTreesModel", name := "feed", desc := "(IIIII)I" } : Jvm.MethodName) prog_11_method_125_code (9 : Nat) (Option.some Jvm.ClassFile.FieldType.int)) ∈ lw_all := lw_g (lw_at lw_m10 227 rfl) rfl
theorem q2615 : (Jvm.Cond.instanceMethod ({ cls := "GraftTreesModel", name := "load", desc := "(I)I" } : Jvm.MethodName)) ∈ lw_all := lw_g (lw_at lw_m10 229 rfl) rfl
theorem q2616 : (Jvm.Cond.selects "GraftTreesModel" ({ cls := "GraftTreesModel", name := "load", desc := "(I)I" } : Jvm.MethodName) ({ cls := "GraftTreesModel", name := "load", desc := "(I)I" } : Jvm.MethodName)) ∈ lw_all := lw_g (lw_at lw_m10 230 rfl) rfl
theorem q2617 : (Jvm.Cond.codeWith ({ cls := "GraftTreesModel", name := "load", desc := "(I)I" } : Jvm.MethodName) prog_11_method_126_code (3 : Nat) (Option.some Jvm.ClassFile.FieldType.int) [((54 : Nat), (58 : Nat), (61 : Nat), (7 : Nat))]) ∈ lw_all := lw_g (lw_at lw_m10 231 rfl) rfl
theorem q2618 : (Jvm.Cond.methodLink "GraftTreesModel" (930 : Nat) ({ cls := "GraftTreesModel", name := "noRun", desc := "()V" } : Jvm.MethodName)) ∈ lw_all := lw_g (lw_at lw_m10 232 rfl) rfl
theorem q2619 : (Jvm.Cond.privateMethod ({ cls := "GraftTreesModel", name := "noRun", desc := "()V" } : Jvm.MethodName)) ∈ lw_tbl := lw_at lw_m10 233 rfl
theorem q2620 : (Jvm.Cond.instanceMethod ({ cls := "GraftTreesModel", name := "noRun", desc := "()V" } : Jvm.MethodName)) ∈ lw_all := lw_g (lw_at lw_m10 234 rfl) rfl
theorem q2621 : (Jvm.Cond.code ({ cls := "GraftTreesModel", name := "noRun", desc := "()V" } : Jvm.MethodName) prog_11_method_127_code (1 : Nat) (Option.none : Option Jvm.ClassFile.FieldType)) ∈ lw_all := lw_g (lw_at lw_m10 235 rfl) rfl
theorem q2622 : (Jvm.Cond.methodLink "GraftTreesModel" (922 : Nat) ({ cls := "GraftTreesModel", name := "readText", desc := "()V" } : Jvm.MethodName)) ∈ lw_all := lw_g (lw_at lw_m10 236 rfl) rfl
theorem q2623 : (Jvm.Cond.privateMethod ({ cls := "GraftTreesModel", name := "readText", desc := "()V" } : Jvm.MethodName)) ∈ lw_tbl := lw_at lw_m10 237 rfl
theorem q2624 : (Jvm.Cond.instanceMethod ({ cls := "GraftTreesModel", name := "readText", desc := "()V" } : Jvm.MethodName)) ∈ lw_all := lw_g (lw_at lw_m10 238 rfl) rfl
theorem q2625 : (Jvm.Cond.code ({ cls := "GraftTreesModel", name := "readText", desc := "()V" } : Jvm.MethodName) prog_11_method_33_code (1 : Nat) (Option.none : Option Jvm.ClassFile.FieldType)) ∈ lw_all := lw_g (lw_at lw_m10 239 rfl) rfl
theorem q2626 : (Jvm.Cond.methodLink "GraftTreesModel" (482 : Nat) ({ cls := "GraftTreesModel", name := "take", desc := "()V" } : Jvm.MethodName)) ∈ lw_all := lw_g (lw_at lw_m11 0 rfl) rfl
theorem q2627 : (Jvm.Cond.privateMethod ({ cls := "GraftTreesModel", name := "take", desc := "()V" } : Jvm.MethodName)) ∈ lw_tbl := lw_at lw_m11 1 rfl
theorem q2628 : (Jvm.Cond.instanceMethod ({ cls := "GraftTreesModel", name := "take", desc := "()V" } : Jvm.MethodName)) ∈ lw_all := lw_g (lw_at lw_m11 2 rfl) rfl
theorem q2629 : (Jvm.Cond.code ({ cls := "GraftTreesModel", name := "take", desc := "()V" } : Jvm.MethodName) prog_11_method_24_code (2 : Nat) (Option.none : Option Jvm.ClassFile.FieldType)) ∈ lw_all := lw_g (lw_at lw_m11 3 rfl) rfl
theorem q2630 : (Jvm.Cond.methodLink "GraftTreesModel" (430 : Nat) ({ cls := "GraftTreesModel", name := "blanks", desc := "()V" } : Jvm.MethodName)) ∈ lw_all := lw_g (lw_at lw_m11 4 rfl) rfl
theorem q2631 : (Jvm.Cond.privateMethod ({ cls := "GraftTreesModel", name := "blanks", desc := "()V" } : Jvm.MethodName)) ∈ lw_tbl := lw_at lw_m11 5 rfl
theorem q2632 : (Jvm.Cond.instanceMethod ({ cls := "GraftTreesModel", name := "blanks", desc := "()V" } : Jvm.MethodName)) ∈ lw_all := lw_g (lw_at lw_m11 6 rfl) rfl
theorem q2633 : (Jvm.Cond.code ({ cls := "GraftTreesModel", name := "blanks", desc := "()V" } : Jvm.MethodName) prog_11_method_23_code (2 : Nat) (Option.none : Option Jvm.ClassFile.FieldType)) ∈ lw_all := lw_g (lw_at lw_m11 7 rfl) rfl
theorem q2634 : (Jvm.Cond.methodLink "GraftTreesModel" (426 : Nat) ({ cls := "GraftTreesModel", name := "sign", desc := "(I)I" } : Jvm.MethodName)) ∈ lw_all := lw_g (lw_at lw_m11 8 rfl) rfl
theorem q2635 : (Jvm.Cond.privateMethod ({ cls := "GraftTreesModel", name := "sign", desc := "(I)I" } : Jvm.MethodName)) ∈ lw_tbl := lw_at lw_m11 9 rfl
theorem q2636 : (Jvm.Cond.instanceMethod ({ cls := "GraftTreesModel", name := "sign", desc := "(I)I" } : Jvm.MethodName)) ∈ lw_all := lw_g (lw_at lw_m11 10 rfl) rfl
theorem q2637 : (Jvm.Cond.code ({ cls := "GraftTreesModel", name := "sign", desc := "(I)I" } : Jvm.MethodName) prog_11_method_20_code (2 : Nat) (Option.some Jvm.ClassFile.FieldType.int)) ∈ lw_all := lw_g (lw_at lw_m11 11 rfl) rfl
theorem q2638 : (Jvm.Cond.methodLink "GraftTreesModel" (439 : Nat) ({ cls := "GraftTreesModel", name := "isLetter", desc := "(I)Z" } : Jvm.MethodName)) ∈ lw_all := lw_g (lw_at lw_m11 12 rfl) rfl
theorem q2639 : (Jvm.Cond.static ({ cls := "GraftTreesModel", name := "isLetter", desc := "(I)Z" } : Jvm.MethodName)) ∈ lw_all := lw_g (lw_at lw_m11 13 rfl) rfl
theorem q2640 : (Jvm.Cond.code ({ cls := "GraftTreesModel", name := "isLetter", desc := "(I)Z" } : Jvm.MethodName) prog_11_method_21_code (1 : Nat) (Option.some Jvm.ClassFile.FieldType.boolean)) ∈ lw_all := lw_g (lw_at lw_m11 14 rfl) rfl
theorem q2641 : (Jvm.Cond.methodLink "GraftTreesModel" (443 : Nat) ({ cls := "GraftTreesModel", name := "isDigit", desc := "(I)Z" } : Jvm.MethodName)) ∈ lw_all := lw_g (lw_at lw_m11 15 rfl) rfl
theorem q2642 : (Jvm.Cond.static ({ cls := "GraftTreesModel", name := "isDigit", desc := "(I)Z" } : Jvm.MethodName)) ∈ lw_all := lw_g (lw_at lw_m11 16 rfl) rfl
theorem q2643 : (Jvm.Cond.code ({ cls := "GraftTreesModel", name := "isDigit", desc := "(I)Z" } : Jvm.MethodName) prog_11_method_22_code (1 : Nat) (Option.some Jvm.ClassFile.FieldType.boolean)) ∈ lw_all := lw_g (lw_at lw_m11 17 rfl) rfl
theorem q2644 : (Jvm.Cond.methodLink "GraftTreesModel" (446 : Nat) ({ cls := "GraftTreesModel", name := "fails", desc := "(II)LGraftTreesModel$Stop;" } : Jvm.MethodName)) ∈ lw_all := lw_g (lw_at lw_m11 18 rfl) rfl
theorem q2645 : (Jvm.Cond.privateMethod ({ cls := "GraftTreesModel", name := "fails", desc := "(II)LGraftTreesModel$Stop;" } : Jvm.MethodName)) ∈ lw_tbl := lw_at lw_m11 19 rfl
theorem q2646 : (Jvm.Cond.instanceMethod ({ cls := "GraftTreesModel", name := "fails", desc := "(II)LGraftTreesModel$Stop;" } : Jvm.MethodName)) ∈ lw_all := lw_g (lw_at lw_m11 20 rfl) rfl
theorem q2647 : (Jvm.Cond.code ({ cls := "GraftTreesModel", name := "fails", desc := "(II)LGraftTreesModel$Stop;" } : Jvm.MethodName) prog_11_method_19_code (3 : Nat) (Option.some (Jvm.ClassFile.FieldType.object "GraftTreesModel$Stop"))) ∈ lw_all := lw_g (lw_at lw_m11 21 rfl) rfl
theorem q2648 : (Jvm.Cond.methodLink "GraftTreesModel" (450 : Nat) ({ cls := "GraftTreesModel", name := "word", desc := "()I" } : Jvm.MethodName)) ∈ lw_all := lw_g (lw_at lw_m11 22 rfl) rfl
theorem q2649 : (Jvm.Cond.privateMethod ({ cls := "GraftTreesModel", name := "word", desc := "()I" } : Jvm.MethodName)) ∈ lw_tbl := lw_at lw_m11 23 rfl
theorem q2650 : (Jvm.Cond.instanceMethod ({ cls := "GraftTreesModel", name := "word", desc := "()I" } : Jvm.MethodName)) ∈ lw_all := lw_g (lw_at lw_m11 24 rfl) rfl
theorem q2651 : (Jvm.Cond.code ({ cls := "GraftTreesModel", name := "word", desc := "()I" } : Jvm.MethodName) prog_11_method_27_code (6 : Nat) (Option.some Jvm.ClassFile.FieldType.int)) ∈ lw_all := lw_g (lw_at lw_m11 25 rfl) rfl
theorem q2652 : (Jvm.Cond.stringRef "GraftTreesModel" (465 : Nat) "function if else while return break continue true false null ") ∈ lw_tbl := lw_at lw_m11 26 rfl
theorem q2653 : (Jvm.Cond.methodLink "GraftTreesModel" (453 : Nat) ({ cls := "GraftTreesModel", name := "string", desc := "()V" } : Jvm.MethodName)) ∈ lw_all := lw_g (lw_at lw_m11 27 rfl) rfl
theorem q2654 : (Jvm.Cond.privateMethod ({ cls := "GraftTreesModel", name := "string", desc := "()V" } : Jvm.MethodName)) ∈ lw_tbl := lw_at lw_m11 28 rfl
theorem q2655 : (Jvm.Cond.instanceMethod ({ cls := "GraftTreesModel", name := "string", desc := "()V" } : Jvm.MethodName)) ∈ lw_all := lw_g (lw_at lw_m11 29 rfl) rfl
theorem q2656 : (Jvm.Cond.code ({ cls := "GraftTreesModel", name := "string", desc := "()V" } : Jvm.MethodName) prog_11_method_25_code (1 : Nat) (Option.none : Option Jvm.ClassFile.FieldType)) ∈ lw_all := lw_g (lw_at lw_m11 30 rfl) rfl
theorem q2657 : (Jvm.Cond.methodLink "GraftTreesModel" (456 : Nat) ({ cls := "GraftTreesModel", name := "signs", desc := "(I)V" } : Jvm.MethodName)) ∈ lw_all := lw_g (lw_at lw_m11 31 rfl) rfl
theorem q2658 : (Jvm.Cond.privateMethod ({ cls := "GraftTreesModel", name := "signs", desc := "(I)V" } : Jvm.MethodName)) ∈ lw_tbl := lw_at lw_m11 32 rfl
theorem q2659 : (Jvm.Cond.instanceMethod ({ cls := "GraftTreesModel", name := "signs", desc := "(I)V" } : Jvm.MethodName)) ∈ lw_all := lw_g (lw_at lw_m11 33 rfl) rfl
theorem q2660 : (Jvm.Cond.code ({ cls := "GraftTreesModel", name := "signs", desc := "(I)V" } : Jvm.MethodName) prog_11_method_26_code (5 : Nat) (Option.none : Option Jvm.ClassFile.FieldType)) ∈ lw_all := lw_g (lw_at lw_m11 34 rfl) rfl
theorem q2661 : (Jvm.Cond.stringRef "GraftTreesModel" (463 : Nat) "(){}[],;.=!<>+-*/&|") ∈ lw_tbl := lw_at lw_m11 35 rfl
theorem q2662 : (Jvm.Cond.methodLink "GraftTreesModel" (488 : Nat) ({ cls := "GraftTreesModel", name := "function", desc := "()V" } : Jvm.MethodName)) ∈ lw_all := lw_g (lw_at lw_m11 36 rfl) rfl
theorem q2663 : (Jvm.Cond.privateMethod ({ cls := "GraftTreesModel", name := "function", desc := "()V" } : Jvm.MethodName)) ∈ lw_tbl := lw_at lw_m11 37 rfl
theorem q2664 : (Jvm.Cond.instanceMethod ({ cls := "GraftTreesModel", name := "function", desc := "()V" } : Jvm.MethodName)) ∈ lw_all := lw_g (lw_at lw_m11 38 rfl) rfl
theorem q2665 : (Jvm.Cond.code ({ cls := "GraftTreesModel", name := "function", desc := "()V" } : Jvm.MethodName) prog_11_method_36_code (3 : Nat) (Option.none : Option Jvm.ClassFile.FieldType)) ∈ lw_all := lw_g (lw_at lw_m11 39 rfl) rfl
theorem q2666 : (Jvm.Cond.methodLink "GraftTreesModel" (495 : Nat) ({ cls := "GraftTreesModel", name := "pass", desc := "(I)V" } : Jvm.MethodName)) ∈ lw_all := lw_g (lw_at lw_m11 40 rfl) rfl
theorem q2667 : (Jvm.Cond.privateMethod ({ cls := "GraftTreesModel", name := "pass", desc := "(I)V" } : Jvm.MethodName)) ∈ lw_tbl := lw_at lw_m11 41 rfl
theorem q2668 : (Jvm.Cond.instanceMethod ({ cls := "GraftTreesModel", name := "pass", desc := "(I)V" } : Jvm.MethodName)) ∈ lw_all := lw_g (lw_at lw_m11 42 rfl) rfl
theorem q2669 : (Jvm.Cond.code ({ cls := "GraftTreesModel", name := "pass", desc := "(I)V" } : Jvm.MethodName) prog_11_method_32_code (2 : Nat) (Option.none : Option Jvm.ClassFile.FieldType)) ∈ lw_all := lw_g (lw_at lw_m11 43 rfl) rfl
theorem q2670 : (Jvm.Cond.methodLink "GraftTreesModel" (476 : Nat) ({ cls := "GraftTreesModel", name := "need", desc := "(I)V" } : Jvm.MethodName)) ∈ lw_all := lw_g (lw_at lw_m11 44 rfl) rfl
theorem q2671 : (Jvm.Cond.privateMethod ({ cls := "GraftTreesModel", name := "need", desc := "(I)V" } : Jvm.MethodName)) ∈ lw_tbl := lw_at lw_m11 45 rfl
theorem q2672 : (Jvm.Cond.instanceMethod ({ cls := "GraftTreesModel", name := "need", desc := "(I)V" } : Jvm.MethodName)) ∈ lw_all := lw_g (lw_at lw_m11 46 rfl) rfl
theorem q2673 : (Jvm.Cond.code ({ cls := "GraftTreesModel", name := "need", desc := "(I)V" } : Jvm.MethodName) prog_11_method_30_code (2 : Nat) (Option.none : Option Jvm.ClassFile.FieldType)) ∈ lw_all := lw_g (lw_at lw_m11 47 rfl) rfl
theorem q2674 : (Jvm.Cond.methodLink "GraftTreesModel" (479 : Nat) ({ cls := "GraftTreesModel", name := "opens", desc := "()V" } : Jvm.MethodName)) ∈ lw_all := lw_g (lw_at lw_m11 48 rfl) rfl
theorem q2675 : (Jvm.Cond.privateMethod ({ cls := "GraftTreesModel", name := "opens", desc := "()V" } : Jvm.MethodName)) ∈ lw_tbl := lw_at lw_m11 49 rfl
theorem q2676 : (Jvm.Cond.instanceMethod ({ cls := "GraftTreesModel", name := "opens", desc := "()V" } : Jvm.MethodName)) ∈ lw_all := lw_g (lw_at lw_m11 50 rfl) rfl
theorem q2677 : (Jvm.Cond.code ({ cls := "GraftTreesModel", name := "opens", desc := "()V" } : Jvm.MethodName) prog_11_method_31_code (1 : Nat) (Option.none : Option Jvm.ClassFile.FieldType)) ∈ lw_all := lw_g (lw_at lw_m11 51 rfl) rfl
theorem q2678 : (Jvm.Cond.methodLink "GraftTreesModel" (491 : Nat) ({ cls := "GraftTreesModel", name := "isWord", desc := "(IIII)Z" } : Jvm.MethodName)) ∈ lw_all := lw_g (lw_at lw_m11 52 rfl) rfl
theorem q2679 : (Jvm.Cond.privateMethod ({ cls := "GraftTreesModel", name := "isWord", desc := "(IIII)Z" } : Jvm.MethodName)) ∈ lw_tbl := lw_at lw_m11 53 rfl
theorem q2680 : (Jvm.Cond.instanceMethod ({ cls := "GraftTreesModel", name := "isWord", desc := "(IIII)Z" } : Jvm.MethodName)) ∈ lw_all := lw_g (lw_at lw_m11 54 rfl) rfl
theorem q2681 : (Jvm.Cond.code ({ cls := "GraftTreesModel", name := "isWord", desc := "(IIII)Z" } : Jvm.MethodName) prog_11_method_28_code (7 : Nat) (Option.some Jvm.ClassFile.FieldType.boolean)) ∈ lw_all := lw_g (lw_at lw_m11 55 rfl) rfl
theorem q2682 : (Jvm.Cond.methodLink "GraftTreesModel" (501 : Nat) ({ cls := "GraftTreesModel", name := "localOf", desc := "(II)I" } : Jvm.MethodName)) ∈ lw_all := lw_g (lw_at lw_m11 56 rfl) rfl
theorem q2683 : (Jvm.Cond.privateMethod ({ cls := "GraftTreesModel", name := "localOf", desc := "(II)I" } : Jvm.MethodName)) ∈ lw_tbl := lw_at lw_m11 57 rfl
theorem q2684 : (Jvm.Cond.instanceMethod ({ cls := "GraftTreesModel", name := "localOf", desc := "(II)I" } : Jvm.MethodName)) ∈ lw_all := lw_g (lw_at lw_m11 58 rfl) rfl
theorem q2685 : (Jvm.Cond.code ({ cls := "GraftTreesModel", name := "localOf", desc := "(II)I" } : Jvm.MethodName) prog_11_method_34_code (4 : Nat) (Option.some Jvm.ClassFile.FieldType.int)) ∈ lw_all := lw_g (lw_at lw_m11 59 rfl) rfl
theorem q2686 : (Jvm.Cond.methodLink "GraftTreesModel" (505 : Nat) ({ cls := "GraftTreesModel", name := "newNode", desc := "(I)I" } : Jvm.MethodName)) ∈ lw_all := lw_g (lw_at lw_m11 60 rfl) rfl
theorem q2687 : (Jvm.Cond.privateMethod ({ cls := "GraftTreesModel", name := "newNode", desc := "(I)I" } : Jvm.MethodName)) ∈ lw_tbl := lw_at lw_m11 61 rfl
theorem q2688 : (Jvm.Cond.instanceMethod ({ cls := "GraftTreesModel", name := "newNode", desc := "(I)I" } : Jvm.MethodName)) ∈ lw_all := lw_g (lw_at lw_m11 62 rfl) rfl
theorem q2689 : (Jvm.Cond.code ({ cls := "GraftTreesModel", name := "newNode", desc := "(I)I" } : Jvm.MethodName) prog_11_method_29_code (3 : Nat) (Option.some Jvm.ClassFile.FieldType.int)) ∈ lw_all := lw_g (lw_at lw_m11 63 rfl) rfl
theorem q2690 : (Jvm.Cond.methodLink "GraftTreesModel" (508 : Nat) ({ cls := "GraftTreesModel", name := "addLocal", desc := "(II)V" } : Jvm.MethodName)) ∈ lw_all := lw_g (lw_at lw_m11 64 rfl) rfl
theorem q2691 : (Jvm.Cond.privateMethod ({ cls := "GraftTreesModel", name := "addLocal", desc := "(II)V" } : Jvm.MethodName)) ∈ lw_tbl := lw_at lw_m11 65 rfl
theorem q2692 : (Jvm.Cond.instanceMethod ({ cls := "GraftTreesModel", name := "addLocal", desc := "(II)V" } : Jvm.MethodName)) ∈ lw_all := lw_g (lw_at lw_m11 66 rfl) rfl
theorem q2693 : (Jvm.Cond.code ({ cls := "GraftTreesModel", name := "addLocal", desc := "(II)V" } : Jvm.MethodName) prog_11_method_35_code (3 : Nat) (Option.none : Option Jvm.ClassFile.FieldType)) ∈ lw_all := lw_g (lw_at lw_m11 67 rfl) rfl
theorem q2694 : (Jvm.Cond.methodLink "GraftTreesModel" (512 : Nat) ({ cls := "GraftTreesModel", name := "block", desc := "()I" } : Jvm.MethodName)) ∈ lw_all := lw_g (lw_at lw_m11 68 rfl) rfl
theorem q2695 : (Jvm.Cond.privateMethod ({ cls := "GraftTreesModel", name := "block", desc := "()I" } : Jvm.MethodName)) ∈ lw_tbl := lw_at lw_m11 69 rfl
theorem q2696 : (Jvm.Cond.instanceMethod ({ cls := "GraftTreesModel", name := "block", desc := "()I" } : Jvm.MethodName)) ∈ lw_all := lw_g (lw_at lw_m11 70 rfl) rfl
theorem q2697 : (Jvm.Cond.code ({ cls := "GraftTreesModel", name := "block", desc := "()I" } : Jvm.MethodName) prog_11_method_37_code (4 : Nat) (Option.some Jvm.ClassFile.FieldType.int)) ∈ lw_all := lw_g (lw_at lw_m11 71 rfl) rfl
theorem q2698 : (Jvm.Cond.methodLink "GraftTreesModel" (515 : Nat) ({ cls := "GraftTreesModel", name := "statement", desc := "()I" } : Jvm.MethodName)) ∈ lw_all := lw_g (lw_at lw_m11 72 rfl) rfl
theorem q2699 : (Jvm.Cond.privateMethod ({ cls := "GraftTreesModel", name := "statement", desc := "()I" } : Jvm.MethodName)) ∈ lw_tbl := lw_at lw_m11 73 rfl
theorem q2700 : (Jvm.Cond.instanceMethod ({ cls := "GraftTreesModel", name := "statement", desc := "()I" } : Jvm.MethodName)) ∈ lw_all := lw_g (lw_at lw_m11 74 rfl) rfl
theorem q2701 : (Jvm.Cond.code ({ cls := "GraftTreesModel", name := "statement", desc := "()I" } : Jvm.MethodName) prog_11_method_38_code (3 : Nat) (Option.some Jvm.ClassFile.FieldType.int)) ∈ lw_all := lw_g (lw_at lw_m11 75 rfl) rfl
theorem q2702 : (Jvm.Cond.methodLink "GraftTreesModel" (518 : Nat) ({ cls := "GraftTreesModel", name := "e", desc := "()I" } : Jvm.MethodName)) ∈ lw_all := lw_g (lw_at lw_m11 76 rfl) rfl
theorem q2703 : (Jvm.Cond.privateMethod ({ cls := "GraftTreesModel", name := "e", desc := "()I" } : Jvm.MethodName)) ∈ lw_tbl := lw_at lw_m11 77 rfl
theorem q2704 : (Jvm.Cond.instanceMethod ({ cls := "GraftTreesModel", name := "e", desc := "()I" } : Jvm.MethodName)) ∈ lw_all := lw_g (lw_at lw_m11 78 rfl) rfl
theorem q2705 : (Jvm.Cond.code ({ cls := "GraftTreesModel", name := "e", desc := "()I" } : Jvm.MethodName) prog_11_method_39_code (4 : Nat) (Option.some Jvm.ClassFile.FieldType.int)) ∈ lw_all := lw_g (lw_at lw_m11 79 rfl) rfl
theorem q2706 : (Jvm.Cond.methodLink "GraftTreesModel" (521 : Nat) ({ cls := "GraftTreesModel", name := "either", desc := "()I" } : Jvm.MethodName)) ∈ lw_all := lw_g (lw_at lw_m11 80 rfl) rfl
theorem q2707 : (Jvm.Cond.privateMethod ({ cls := "GraftTreesModel", name := "either", desc := "()I" } : Jvm.MethodName)) ∈ lw_tbl := lw_at lw_m11 81 rfl
theorem q2708 : (Jvm.Cond.instanceMethod ({ cls := "GraftTreesModel", name := "either", desc := "()I" } : Jvm.MethodName)) ∈ lw_all := lw_g (lw_at lw_m11 82 rfl) rfl
theorem q2709 : (Jvm.Cond.code ({ cls := "GraftTreesModel", name := "either", desc := "()I" } : Jvm.MethodName) prog_11_method_41_code (2 : Nat) (Option.some Jvm.ClassFile.FieldType.int)) ∈ lw_all := lw_g (lw_at lw_m11 83 rfl) rfl
theorem q2710 : (Jvm.Cond.methodLink "GraftTreesModel" (524 : Nat) ({ cls := "GraftTreesModel", name := "both", desc := "()I" } : Jvm.MethodName)) ∈ lw_all := lw_g (lw_at lw_m11 84 rfl) rfl
theorem q2711 : (Jvm.Cond.privateMethod ({ cls := "GraftTreesModel", name := "both", desc := "()I" } : Jvm.MethodName)) ∈ lw_tbl := lw_at lw_m11 85 rfl
theorem q2712 : (Jvm.Cond.instanceMethod ({ cls := "GraftTreesModel", name := "both", desc := "()I" } : Jvm.MethodName)) ∈ lw_all := lw_g (lw_at lw_m11 86 rfl) rfl
theorem q2713 : (Jvm.Cond.code ({ cls := "GraftTreesModel", name := "both", desc := "()I" } : Jvm.MethodName) prog_11_method_42_code (2 : Nat) (Option.some Jvm.ClassFile.FieldType.int)) ∈ lw_all := lw_g (lw_at lw_m11 87 rfl) rfl
theorem q2714 : (Jvm.Cond.methodLink "GraftTreesModel" (530 : Nat) ({ cls := "GraftTreesModel", name := "same", desc := "()I" } : Jvm.MethodName)) ∈ lw_all := lw_g (lw_at lw_m11 88 rfl) rfl
theorem q2715 : (Jvm.Cond.privateMethod ({ cls := "GraftTreesModel", name := "same", desc := "()I" } : Jvm.MethodName)) ∈ lw_tbl := lw_at lw_m11 89 rfl
theorem q2716 : (Jvm.Cond.instanceMethod ({ cls := "GraftTreesModel", name := "same", desc := "()I" } : Jvm.MethodName)) ∈ lw_all := lw_g (lw_at lw_m11 90 rfl) rfl
theorem q2717 : (Jvm.Cond.code ({ cls := "GraftTreesModel", name := "same", desc := "()I" } : Jvm.MethodName) prog_11_method_43_code (2 : Nat) (Option.some Jvm.ClassFile.FieldType.int)) ∈ lw_all := lw_g (lw_at lw_m11 91 rfl) rfl
theorem q2718 : (Jvm.Cond.methodLink "GraftTreesModel" (533 : Nat) ({ cls := "GraftTreesModel", name := "less", desc := "()I" } : Jvm.MethodName)) ∈ lw_all := lw_g (lw_at lw_m11 92 rfl) rfl
theorem q2719 : (Jvm.Cond.privateMethod ({ cls := "GraftTreesModel", name := "less", desc := "()I" } : Jvm.MethodName)) ∈ lw_tbl := lw_at lw_m11 93 rfl
theorem q2720 : (Jvm.Cond.instanceMethod ({ cls := "GraftTreesModel", name := "less", desc := "()I" } : Jvm.MethodName)) ∈ lw_all := lw_g (lw_at lw_m11 94 rfl) rfl
theorem q2721 : (Jvm.Cond.code ({ cls := "GraftTreesModel", name := "less", desc := "()I" } : Jvm.MethodName) prog_11_method_44_code (2 : Nat) (Option.some Jvm.ClassFile.FieldType.int)) ∈ lw_all := lw_g (lw_at lw_m11 95 rfl) rfl
theorem q2722 : (Jvm.Cond.methodLink "GraftTreesModel" (536 : Nat) ({ cls := "GraftTreesModel", name := "added", desc := "()I" } : Jvm.MethodName)) ∈ lw_all := lw_g (lw_at lw_m11 96 rfl) rfl
theorem q2723 : (Jvm.Cond.privateMethod ({ cls := "GraftTreesModel", name := "added", desc := "()I" } : Jvm.MethodName)) ∈ lw_tbl := lw_at lw_m11 97 rfl
theorem q2724 : (Jvm.Cond.instanceMethod ({ cls := "GraftTreesModel", name := "added", desc := "()I" } : Jvm.MethodName)) ∈ lw_all := lw_g (lw_at lw_m11 98 rfl) rfl
theorem q2725 : (Jvm.Cond.code ({ cls := "GraftTreesModel", name := "added", desc := "()I" } : Jvm.MethodName) prog_11_method_45_code (2 : Nat) (Option.some Jvm.ClassFile.FieldType.int)) ∈ lw_all := lw_g (lw_at lw_m11 99 rfl) rfl
theorem q2726 : (Jvm.Cond.methodLink "GraftTreesModel" (539 : Nat) ({ cls := "GraftTreesModel", name := "product", desc := "()I" } : Jvm.MethodName)) ∈ lw_all := lw_g (lw_at lw_m11 100 rfl) rfl
theorem q2727 : (Jvm.Cond.privateMethod ({ cls := "GraftTreesModel", name := "product", desc := "()I" } : Jvm.MethodName)) ∈ lw_tbl := lw_at lw_m11 101 rfl
theorem q2728 : (Jvm.Cond.instanceMethod ({ cls := "GraftTreesModel", name := "product", desc := "()I" } : Jvm.MethodName)) ∈ lw_all := lw_g (lw_at lw_m11 102 rfl) rfl
theorem q2729 : (Jvm.Cond.code ({ cls := "GraftTreesModel", name := "product", desc := "()I" } : Jvm.MethodName) prog_11_method_46_code (2 : Nat) (Option.some Jvm.ClassFile.FieldType.int)) ∈ lw_all := lw_g (lw_at lw_m11 103 rfl) rfl
theorem q2730 : (Jvm.Cond.methodLink "GraftTreesModel" (542 : Nat) ({ cls := "GraftTreesModel", name := "unary", desc := "()I" } : Jvm.MethodName)) ∈ lw_all := lw_g (lw_at lw_m11 104 rfl) rfl
theorem q2731 : (Jvm.Cond.privateMethod ({ cls := "GraftTreesModel", name := "unary", desc := "()I" } : Jvm.MethodName)) ∈ lw_tbl := lw_at lw_m11 105 rfl
theorem q2732 : (Jvm.Cond.instanceMethod ({ cls := "GraftTreesModel", name := "unary", desc := "()I" } : Jvm.MethodName)) ∈ lw_all := lw_g (lw_at lw_m11 106 rfl) rfl
theorem q2733 : (Jvm.Cond.code ({ cls := "GraftTreesModel", name := "unary", desc := "()I" } : Jvm.MethodName) prog_11_method_47_code (2 : Nat) (Option.some Jvm.ClassFile.FieldType.int)) ∈ lw_all := lw_g (lw_at lw_m11 107 rfl) rfl
theorem q2734 : (Jvm.Cond.methodLink "GraftTreesModel" (545 : Nat) ({ cls := "GraftTreesModel", name := "atom", desc := "()I" } : Jvm.MethodName)) ∈ lw_all := lw_g (lw_at lw_m11 108 rfl) rfl
theorem q2735 : (Jvm.Cond.privateMethod ({ cls := "GraftTreesModel", name := "atom", desc := "()I" } : Jvm.MethodName)) ∈ lw_tbl := lw_at lw_m11 109 rfl
theorem q2736 : (Jvm.Cond.instanceMethod ({ cls := "GraftTreesModel", name := "atom", desc := "()I" } : Jvm.MethodName)) ∈ lw_all := lw_g (lw_at lw_m11 110 rfl) rfl
theorem q2737 : (Jvm.Cond.code ({ cls := "GraftTreesModel", name := "atom", desc := "()I" } : Jvm.MethodName) prog_11_method_51_code (2 : Nat) (Option.some Jvm.ClassFile.FieldType.int)) ∈ lw_all := lw_g (lw_at lw_m11 111 rfl) rfl
theorem q2738 : (Jvm.Cond.methodLink "GraftTreesModel" (548 : Nat) ({ cls := "GraftTreesModel", name := "call", desc := "(I)I" } : Jvm.MethodName)) ∈ lw_all := lw_g (lw_at lw_m11 112 rfl) rfl
theorem q2739 : (Jvm.Cond.privateMethod ({ cls := "GraftTreesModel", name := "call", desc := "(I)I" } : Jvm.MethodName)) ∈ lw_tbl := lw_at lw_m11 113 rfl
theorem q2740 : (Jvm.Cond.instanceMethod ({ cls := "GraftTreesModel", name := "call", desc := "(I)I" } : Jvm.MethodName)) ∈ lw_all := lw_g (lw_at lw_m11 114 rfl) rfl
theorem q2741 : (Jvm.Cond.code ({ cls := "GraftTreesModel", name := "call", desc := "(I)I" } : Jvm.MethodName) prog_11_method_50_code (7 : Nat) (Option.some Jvm.ClassFile.FieldType.int)) ∈ lw_all := lw_g (lw_at lw_m11 115 rfl) rfl
theorem q2742 : (Jvm.Cond.methodLink "GraftTreesModel" (554 : Nat) ({ cls := "GraftTreesModel", name := "canBegin", desc := "()Z" } : Jvm.MethodName)) ∈ lw_all := lw_g (lw_at lw_m11 116 rfl) rfl
theorem q2743 : (Jvm.Cond.privateMethod ({ cls := "GraftTreesModel", name := "canBegin", desc := "()Z" } : Jvm.MethodName)) ∈ lw_tbl := lw_at lw_m11 117 rfl
theorem q2744 : (Jvm.Cond.instanceMethod ({ cls := "GraftTreesModel", name := "canBegin", desc := "()Z" } : Jvm.MethodName)) ∈ lw_all := lw_g (lw_at lw_m11 118 rfl) rfl
theorem q2745 : (Jvm.Cond.code ({ cls := "GraftTreesModel", name := "canBegin", desc := "()Z" } : Jvm.MethodName) prog_11_method_49_code (1 : Nat) (Option.some Jvm.ClassFile.FieldType.boolean)) ∈ lw_all := lw_g (lw_at lw_m11 119 rfl) rfl
theorem q2746 : (Jvm.Cond.methodLink "GraftTreesModel" (551 : Nat) ({ cls := "GraftTreesModel", name := "get", desc := "(I)I" } : Jvm.MethodName)) ∈ lw_all := lw_g (lw_at lw_m11 120 rfl) rfl
theorem q2747 : (Jvm.Cond.privateMethod ({ cls := "GraftTreesModel", name := "get", desc := "(I)I" } : Jvm.MethodName)) ∈ lw_tbl := lw_at lw_m11 121 rfl
theorem q2748 : (Jvm.Cond.instanceMethod ({ cls := "GraftTreesModel", name := "get", desc := "(I)I" } : Jvm.MethodName)) ∈ lw_all := lw_g (lw_at lw_m11 122 rfl) rfl
theorem q2749 : (Jvm.Cond.code ({ cls := "GraftTreesModel", name := "get", desc := "(I)I" } : Jvm.MethodName) prog_11_method_48_code (4 : Nat) (Option.some Jvm.ClassFile.FieldType.int)) ∈ lw_all := lw_g (lw_at lw_m11 123 rfl) rfl
theorem q2750 : (Jvm.Cond.methodLink "GraftTreesModel" (527 : Nat) ({ cls := "GraftTreesModel", name := "pair", desc := "(II)I" } : Jvm.MethodName)) ∈ lw_all := lw_g (lw_at lw_m11 124 rfl) rfl
theorem q2751 : (Jvm.Cond.privateMethod ({ cls := "GraftTreesModel", name := "pair", desc := "(II)I" } : Jvm.MethodName)) ∈ lw_tbl := lw_at lw_m11 125 rfl
theorem q2752 : (Jvm.Cond.instanceMethod ({ cls := "GraftTreesModel", name := "pair", desc := "(II)I" } : Jvm.MethodName)) ∈ lw_all := lw_g (lw_at lw_m11 126 rfl) rfl
theorem q2753 : (Jvm.Cond.code ({ cls := "GraftTreesModel", name := "pair", desc := "(II)I" } : Jvm.MethodName) prog_11_method_40_code (4 : Nat) (Option.some Jvm.ClassFile.FieldType.int)) ∈ lw_all := lw_g (lw_at lw_m11 127 rfl) rfl
theorem q2754 : (Jvm.Cond.methodLink "GraftTreesModel" (925 : Nat) ({ cls := "GraftTreesModel", name := "define", desc := "()V" } : Jvm.MethodName)) ∈ lw_all := lw_g (lw_at lw_m11 128 rfl) rfl
theorem q2755 : (Jvm.Cond.privateMethod ({ cls := "GraftTreesModel", name := "define", desc := "()V" } : Jvm.MethodName)) ∈ lw_tbl := lw_at lw_m11 129 rfl
theorem q2756 : (Jvm.Cond.instanceMethod ({ cls := "GraftTreesModel", name := "define", desc := "()V" } : Jvm.MethodName)) ∈ lw_all := lw_g (lw_at lw_m11 130 rfl) rfl
theorem q2757 : (Jvm.Cond.code ({ cls := "GraftTreesModel", name := "define", desc := "()V" } : Jvm.MethodName) prog_11_method_56_code (5 : Nat) (Option.none : Option Jvm.ClassFile.FieldType)) ∈ lw_all := lw_g (lw_at lw_m11 131 rfl) rfl
theorem q2758 : (Jvm.Cond.methodLink "GraftTreesModel" (619 : Nat) ({ cls := "GraftTreesModel", name := "number", desc := "(I)V" } : Jvm.MethodName)) ∈ lw_all := lw_g (lw_at lw_m11 132 rfl) rfl
theorem q2759 : (Jvm.Cond.privateMethod ({ cls := "GraftTreesModel", name := "number", desc := "(I)V" } : Jvm.MethodName)) ∈ lw_tbl := lw_at lw_m11 133 rfl
theorem q2760 : (Jvm.Cond.instanceMethod ({ cls := "GraftTreesModel", name := "number", desc := "(I)V" } : Jvm.MethodName)) ∈ lw_all := lw_g (lw_at lw_m11 134 rfl) rfl
theorem q2761 : (Jvm.Cond.code ({ cls := "GraftTreesModel", name := "number", desc := "(I)V" } : Jvm.MethodName) prog_11_method_58_code (4 : Nat) (Option.none : Option Jvm.ClassFile.FieldType)) ∈ lw_all := lw_g (lw_at lw_m11 135 rfl) rfl
theorem q2762 : (Jvm.Cond.methodLink "GraftTreesModel" (621 : Nat) ({ cls := "GraftTreesModel", name := "lay", desc := "(III)V" } : Jvm.MethodName)) ∈ lw_all := lw_g (lw_at lw_m11 136 rfl) rfl
theorem q2763 : (Jvm.Cond.privateMethod ({ cls := "GraftTreesModel", name := "lay", desc := "(III)V" } : Jvm.MethodName)) ∈ lw_tbl := lw_at lw_m11 137 rfl
theorem q2764 : (Jvm.Cond.instanceMethod ({ cls := "GraftTreesModel", name := "lay", desc := "(III)V" } : Jvm.MethodName)) ∈ lw_all := lw_g (lw_at lw_m11 138 rfl) rfl
theorem q2765 : (Jvm.Cond.code ({ cls := "GraftTreesModel", name := "lay", desc := "(III)V" } : Jvm.MethodName) prog_11_method_59_code (6 : Nat) (Option.none : Option Jvm.ClassFile.FieldType)) ∈ lw_all := lw_g (lw_at lw_m11 139 rfl) rfl
theorem q2766 : (Jvm.Cond.methodLink "GraftTreesModel" (625 : Nat) ({ cls := "GraftTreesModel", name := "numberOf", desc := "(I)I" } : Jvm.MethodName)) ∈ lw_all := lw_g (lw_at lw_m11 140 rfl) rfl
theorem q2767 : (Jvm.Cond.privateMethod ({ cls := "GraftTreesModel", name := "numberOf", desc := "(I)I" } : Jvm.MethodName)) ∈ lw_tbl := lw_at lw_m11 141 rfl
theorem q2768 : (Jvm.Cond.instanceMethod ({ cls := "GraftTreesModel", name := "numberOf", desc := "(I)I" } : Jvm.MethodName)) ∈ lw_all := lw_g (lw_at lw_m11 142 rfl) rfl
theorem q2769 : (Jvm.Cond.code ({ cls := "GraftTreesModel", name := "numberOf", desc := "(I)I" } : Jvm.MethodName) prog_11_method_57_code (2 : Nat) (Option.some Jvm.ClassFile.FieldType.int)) ∈ lw_all := lw_g (lw_at lw_m11 143 rfl) rfl
theorem q2770 : (Jvm.Cond.methodLink "GraftTreesModel" (628 : Nat) ({ cls := "GraftTreesModel", name := "number", desc := "(III)V" } : Jvm.MethodName)) ∈ lw_all := lw_g (lw_at lw_m11 144 rfl) rfl
theorem q2771 : (Jvm.Cond.privateMethod ({ cls := "GraftTreesModel", name := "number", desc := "(III)V" } : Jvm.MethodName)) ∈ lw_tbl := lw_at lw_m11 145 rfl
theorem q2772 : (Jvm.Cond.instanceMethod ({ cls := "GraftTreesModel", name := "number", desc := "(III)V" } : Jvm.MethodName)) ∈ lw_all := lw_g (lw_at lw_m11 146 rfl) rfl
theorem q2773 : (Jvm.Cond.code ({ cls := "GraftTreesModel", name := "number", desc := "(III)V" } : Jvm.MethodName) prog_11_method_60_code (7 : Nat) (Option.none : Option Jvm.ClassFile.FieldType)) ∈ lw_all := lw_g (lw_at lw_m11 147 rfl) rfl
theorem q2774 : (Jvm.Cond.constant "GraftTreesModel" (406 : Nat) (1000000000 : Int32)) ∈ lw_all := lw_g (lw_at lw_m11 148 rfl) rfl
theorem q2775 : (Jvm.Cond.methodLink "GraftTreesModel" (630 : Nat) ({ cls := "GraftTreesModel", name := "fitsLong", desc := "()Z" } : Jvm.MethodName)) ∈ lw_all := lw_g (lw_at lw_m11 149 rfl) rfl
theorem q2776 : (Jvm.Cond.privateMethod ({ cls := "GraftTreesModel", name := "fitsLong", desc := "()Z" } : Jvm.MethodName)) ∈ lw_tbl := lw_at lw_m11 150 rfl
theorem q2777 : (Jvm.Cond.instanceMethod ({ cls := "GraftTreesModel", name := "fitsLong", desc := "()Z" } : Jvm.MethodName)) ∈ lw_all := lw_g (lw_at lw_m11 151 rfl) rfl
theorem q2778 : (Jvm.Cond.code ({ cls := "GraftTreesModel", name := "fitsLong", desc := "()Z" } : Jvm.MethodName) prog_11_method_17_code (3 : Nat) (Option.some Jvm.ClassFile.FieldType.boolean)) ∈ lw_all := lw_g (lw_at lw_m11 152 rfl) rfl
theorem q2779 : (Jvm.Cond.constantLong "GraftTreesModel" (396 : Nat) (1000000000 : Int64)) ∈ lw_all := lw_g (lw_at lw_m11 153 rfl) rfl
theorem q2780 : (Jvm.Cond.constantLong "GraftTreesModel" (410 : Nat) (223372036854775808 : Int64)) ∈ lw_all := lw_g (lw_at lw_m11 154 rfl) rfl
theorem q2781 : (Jvm.Cond.methodLink "GraftTreesModel" (633 : Nat) ({ cls := "GraftTreesModel", name := "asLong", desc := "()J" } : Jvm.MethodName)) ∈ lw_all := lw_g (lw_at lw_m11 155 rfl) rfl
theorem q2782 : (Jvm.Cond.privateMethod ({ cls := "GraftTreesModel", name := "asLong", desc := "()J" } : Jvm.MethodName)) ∈ lw_tbl := lw_at lw_m11 156 rfl
theorem q2783 : (Jvm.Cond.instanceMethod ({ cls := "GraftTreesModel", name := "asLong", desc := "()J" } : Jvm.MethodName)) ∈ lw_all := lw_g (lw_at lw_m11 157 rfl) rfl
theorem q2784 : (Jvm.Cond.code ({ cls := "GraftTreesModel", name := "asLong", desc := "()J" } : Jvm.MethodName) prog_11_method_18_code (3 : Nat) (Option.some Jvm.ClassFile.FieldType.long)) ∈ lw_all := lw_g (lw_at lw_m11 158 rfl) rfl
theorem q2785 : (Jvm.Cond.constantLong "GraftTreesModel" (412 : Nat) (1000000000000000000 : Int64)) ∈ lw_all := lw_g (lw_at lw_m11 159 rfl) rfl
theorem q2787 : (Jvm.Cond.instanceMethod ({ cls := "GraftTreesModel", name := "fault", desc := "(I)I" } : Jvm.MethodName)) ∈ lw_all := lw_g (lw_at lw_m11 161 rfl) rfl
theorem q2788 : (Jvm.Cond.selects "GraftTreesModel" ({ cls := "GraftTreesModel", name := "fault", desc := "(I)I" } : Jvm.MethodName) ({ cls := "GraftTreesModel", name := "fault", desc := "(I)I" } : Jvm.MethodName)) ∈ lw_all := lw_g (lw_at lw_m11 162 rfl) rfl
theorem q2789 : (Jvm.Cond.code ({ cls := "GraftTreesModel", name := "fault", desc := "(I)I" } : Jvm.MethodName) prog_11_method_128_code (2 : Nat) (Option.some Jvm.ClassFile.FieldType.int)) ∈ lw_all := lw_g (lw_at lw_m11 163 rfl) rfl
theorem q2791 : (Jvm.Cond.instanceMethod ({ cls := "GraftTreesModel", name := "start", desc := "(JJ)Z" } : Jvm.MethodName)) ∈ lw_all := lw_g (lw_at lw_m11 165 rfl) rfl
theorem q2792 : (Jvm.Cond.selects "GraftTreesModel" ({ cls := "GraftTreesModel", name := "start", desc := "(JJ)Z" } : Jvm.MethodName) ({ cls := "GraftTreesModel", name := "start", desc := "(JJ)Z" } : Jvm.MethodName)) ∈ lw_all := lw_g (lw_at lw_m11 166 rfl) rfl
theorem q2793 : (Jvm.Cond.code ({ cls := "GraftTreesModel", name := "start", desc := "(JJ)Z" } : Jvm.MethodName) prog_11_method_129_code (7 : Nat) (Option.some Jvm.ClassFile.FieldType.boolean)) ∈ lw_all := lw_g (lw_at lw_m11 167 rfl) rfl
theorem q2794 : (Jvm.Cond.stringRef "GraftTreesModel" (936 : Nat) "main") ∈ lw_tbl := lw_at lw_m11 168 rfl
theorem q2795 : (Jvm.Cond.methodLink "GraftTreesModel" (762 : Nat) ({ cls := "GraftTreesModel", name := "push", desc := "(IJ)V" } : Jvm.MethodName)) ∈ lw_all := lw_g (lw_at lw_m11 169 rfl) rfl
theorem q2796 : (Jvm.Cond.privateMethod ({ cls := "GraftTreesModel", name := "push", desc := "(IJ)V" } : Jvm.MethodName)) ∈ lw_tbl := lw_at lw_m11 170 rfl
theorem q2797 : (Jvm.Cond.instanceMethod ({ cls := "GraftTreesModel", name := "push", desc := "(IJ)V" } : Jvm.MethodName)) ∈ lw_all := lw_g (lw_at lw_m11 171 rfl) rfl
theorem q2798 : (Jvm.Cond.code ({ cls := "GraftTreesModel", name := "push", desc := "(IJ)V" } : Jvm.MethodName) prog_11_method_90_code (4 : Nat) (Option.none : Option Jvm.ClassFile.FieldType)) ∈ lw_all := lw_g (lw_at lw_m11 172 rfl) rfl
theorem q2799 : (Jvm.Cond.methodLink "GraftTreesModel" (906 : Nat) ({ cls := "GraftTreesModel", name := "activate", desc := "(IIII)V" } : Jvm.MethodName)) ∈ lw_all := lw_g (lw_at lw_m11 173 rfl) rfl
theorem q2800 : (Jvm.Cond.privateMethod ({ cls := "GraftTreesModel", name := "activate", desc := "(IIII)V" } : Jvm.MethodName)) ∈ lw_tbl := lw_at lw_m11 174 rfl
theorem q2801 : (Jvm.Cond.instanceMethod ({ cls := "GraftTreesModel", name := "activate", desc := "(IIII)V" } : Jvm.MethodName)) ∈ lw_all := lw_g (lw_at lw_m11 175 rfl) rfl
theorem q2802 : (Jvm.Cond.code ({ cls := "GraftTreesModel", name := "activate", desc := "(IIII)V" } : Jvm.MethodName) prog_11_method_95_code (9 : Nat) (Option.none : Option Jvm.ClassFile.FieldType)) ∈ lw_all := lw_g (lw_at lw_m11 176 rfl) rfl
theorem q2803 : (Jvm.Cond.methodLink "GraftTreesModel" (679 : Nat) ({ cls := "GraftTreesModel", name := "more", desc := "(I)I" } : Jvm.MethodName)) ∈ lw_all := lw_g (lw_at lw_m11 177 rfl) rfl
theorem q2804 : (Jvm.Cond.static ({ cls := "GraftTreesModel", name := "more", desc := "(I)I" } : Jvm.MethodName)) ∈ lw_all := lw_g (lw_at lw_m11 178 rfl) rfl
theorem q2805 : (Jvm.Cond.code ({ cls := "GraftTreesModel", name := "more", desc := "(I)I" } : Jvm.MethodName) prog_11_method_79_code (1 : Nat) (Option.some Jvm.ClassFile.FieldType.int)) ∈ lw_all := lw_g (lw_at lw_m11 179 rfl) rfl
theorem q2806 : (Jvm.Cond.methodLink "GraftTreesModel" (732 : Nat) ({ cls := "GraftTreesModel", name := "unitAt", desc := "(III)I" } : Jvm.MethodName)) ∈ lw_all := lw_g (lw_at lw_m11 180 rfl) rfl
theorem q2807 : (Jvm.Cond.privateMethod ({ cls := "GraftTreesModel", name := "unitAt", desc := "(III)I" } : Jvm.MethodName)) ∈ lw_tbl := lw_at lw_m11 181 rfl
theorem q2808 : (Jvm.Cond.instanceMethod ({ cls := "GraftTreesModel", name := "unitAt", desc := "(III)I" } : Jvm.MethodName)) ∈ lw_all := lw_g (lw_at lw_m11 182 rfl) rfl
theorem q2809 : (Jvm.Cond.code ({ cls := "GraftTreesModel", name := "unitAt", desc := "(III)I" } : Jvm.MethodName) prog_11_method_96_code (5 : Nat) (Option.some Jvm.ClassFile.FieldType.int)) ∈ lw_all := lw_g (lw_at lw_m11 183 rfl) rfl
theorem q2810 : (Jvm.Cond.methodLink "GraftTreesModel" (736 : Nat) ({ cls := "GraftTreesModel", name := "heat", desc := "(I)V" } : Jvm.MethodName)) ∈ lw_all := lw_g (lw_at lw_m11 184 rfl) rfl
theorem q2811 : (Jvm.Cond.privateMethod ({ cls := "GraftTreesModel", name := "heat", desc := "(I)V" } : Jvm.MethodName)) ∈ lw_tbl := lw_at lw_m11 185 rfl
theorem q2812 : (Jvm.Cond.instanceMethod ({ cls := "GraftTreesModel", name := "heat", desc := "(I)V" } : Jvm.MethodName)) ∈ lw_all := lw_g (lw_at lw_m11 186 rfl) rfl
theorem q2813 : (Jvm.Cond.code ({ cls := "GraftTreesModel", name := "heat", desc := "(I)V" } : Jvm.MethodName) prog_11_method_80_code (3 : Nat) (Option.none : Option Jvm.ClassFile.FieldType)) ∈ lw_all := lw_g (lw_at lw_m11 187 rfl) rfl
theorem q2814 : (Jvm.Cond.methodLink "GraftTreesModel" (739 : Nat) ({ cls := "GraftTreesModel", name := "enterCode", desc := "(I)V" } : Jvm.MethodName)) ∈ lw_all := lw_g (lw_at lw_m11 188 rfl) rfl
theorem q2815 : (Jvm.Cond.privateMethod ({ cls := "GraftTreesModel", name := "enterCode", desc := "(I)V" } : Jvm.MethodName)) ∈ lw_tbl := lw_at lw_m11 189 rfl
theorem q2816 : (Jvm.Cond.instanceMethod ({ cls := "GraftTreesModel", name := "enterCode", desc := "(I)V" } : Jvm.MethodName)) ∈ lw_all := lw_g (lw_at lw_m11 190 rfl) rfl
theorem q2817 : (Jvm.Cond.code ({ cls := "GraftTreesModel", name := "enterCode", desc := "(I)V" } : Jvm.MethodName) prog_11_method_94_code (3 : Nat) (Option.none : Option Jvm.ClassFile.FieldType)) ∈ lw_all := lw_g (lw_at lw_m11 191 rfl) rfl
theorem q2818 : (Jvm.Cond.methodLink "GraftTreesModel" (742 : Nat) ({ cls := "GraftTreesModel", name := "sets", desc := "(IIJ)V" } : Jvm.MethodName)) ∈ lw_all := lw_g (lw_at lw_m11 192 rfl) rfl
theorem q2819 : (Jvm.Cond.privateMethod ({ cls := "GraftTreesModel", name := "sets", desc := "(IIJ)V" } : Jvm.MethodName)) ∈ lw_tbl := lw_at lw_m11 193 rfl
theorem q2820 : (Jvm.Cond.instanceMethod ({ cls := "GraftTreesModel", name := "sets", desc := "(IIJ)V" } : Jvm.MethodName)) ∈ lw_all := lw_g (lw_at lw_m11 194 rfl) rfl
theorem q2821 : (Jvm.Cond.code ({ cls := "GraftTreesModel", name := "sets", desc := "(IIJ)V" } : Jvm.MethodName) prog_11_method_97_code (9 : Nat) (Option.none : Option Jvm.ClassFile.FieldType)) ∈ lw_all := lw_g (lw_at lw_m11 195 rfl) rfl
theorem q2822 : (Jvm.Cond.methodLink "GraftTreesModel" (749 : Nat) ({ cls := "GraftTreesModel", name := "has", desc := "(II)Z" } : Jvm.MethodName)) ∈ lw_all := lw_g (lw_at lw_m11 196 rfl) rfl
theorem q2823 : (Jvm.Cond.privateMethod ({ cls := "GraftTreesModel", name := "has", desc := "(II)Z" } : Jvm.MethodName)) ∈ lw_tbl := lw_at lw_m11 197 rfl
theorem q2824 : (Jvm.Cond.instanceMethod ({ cls := "GraftTreesModel", name := "has", desc := "(II)Z" } : Jvm.MethodName)) ∈ lw_all := lw_g (lw_at lw_m11 198 rfl) rfl
theorem q2825 : (Jvm.Cond.code ({ cls := "GraftTreesModel", name := "has", desc := "(II)Z" } : Jvm.MethodName) prog_11_method_84_code (3 : Nat) (Option.some Jvm.ClassFile.FieldType.boolean)) ∈ lw_all := lw_g (lw_at lw_m11 199 rfl) rfl
theorem q2826 : (Jvm.Cond.methodLink "GraftTreesModel" (752 : Nat) ({ cls := "GraftTreesModel", name := "setsAnew", desc := "(III)I" } : Jvm.MethodName)) ∈ lw_all := lw_g (lw_at lw_m11 200 rfl) rfl
theorem q2827 : (Jvm.Cond.privateMethod ({ cls := "GraftTreesModel", name := "setsAnew", desc := "(III)I" } : Jvm.MethodName)) ∈ lw_tbl := lw_at lw_m11 201 rfl
theorem q2828 : (Jvm.Cond.instanceMethod ({ cls := "GraftTreesModel", name := "setsAnew", desc := "(III)I" } : Jvm.MethodName)) ∈ lw_all := lw_g (lw_at lw_m11 202 rfl) rfl
theorem q2829 : (Jvm.Cond.code ({ cls := "GraftTreesModel", name := "setsAnew", desc := "(III)I" } : Jvm.MethodName) prog_11_method_98_code (6 : Nat) (Option.some Jvm.ClassFile.FieldType.int)) ∈ lw_all := lw_g (lw_at lw_m11 203 rfl) rfl
theorem q2830 : (Jvm.Cond.methodLink "GraftTreesModel" (755 : Nat) ({ cls := "GraftTreesModel", name := "may", desc := "(II)Z" } : Jvm.MethodName)) ∈ lw_all := lw_g (lw_at lw_m11 204 rfl) rfl
theorem q2831 : (Jvm.Cond.privateMethod ({ cls := "GraftTreesModel", name := "may", desc := "(II)Z" } : Jvm.MethodName)) ∈ lw_tbl := lw_at lw_m11 205 rfl
theorem q2832 : (Jvm.Cond.instanceMethod ({ cls := "GraftTreesModel", name := "may", desc := "(II)Z" } : Jvm.MethodName)) ∈ lw_all := lw_g (lw_at lw_m11 206 rfl) rfl
theorem q2833 : (Jvm.Cond.code ({ cls := "GraftTreesModel", name := "may", desc := "(II)Z" } : Jvm.MethodName) prog_11_method_85_code (3 : Nat) (Option.some Jvm.ClassFile.FieldType.boolean)) ∈ lw_all := lw_g (lw_at lw_m11 207 rfl) rfl
theorem q2834 : (Jvm.Cond.methodLink "GraftTreesModel" (758 : Nat) ({ cls := "GraftTreesModel", name := "settle", desc := "(IIZ)V" } : Jvm.MethodName)) ∈ lw_all := lw_g (lw_at lw_m11 208 rfl) rfl
theorem q2835 : (Jvm.Cond.privateMethod ({ cls := "GraftTreesModel", name := "settle", desc := "(IIZ)V" } : Jvm.MethodName)) ∈ lw_tbl := lw_at lw_m11 209 rfl
theorem q2836 : (Jvm.Cond.instanceMethod ({ cls := "GraftTreesModel", name := "settle", desc := "(IIZ)V" } : Jvm.MethodName)) ∈ lw_all := lw_g (lw_at lw_m11 210 rfl) rfl
theorem q2837 : (Jvm.Cond.code ({ cls := "GraftTreesModel", name := "settle", desc := "(IIZ)V" } : Jvm.MethodName) prog_11_method_86_code (4 : Nat) (Option.none : Option Jvm.ClassFile.FieldType)) ∈ lw_all := lw_g (lw_at lw_m11 211 rfl) rfl
theorem q2838 : (Jvm.Cond.methodLink "GraftTreesModel" (697 : Nat) ({ cls := "GraftTreesModel", name := "changing", desc := "(I)V" } : Jvm.MethodName)) ∈ lw_all := lw_g (lw_at lw_m11 212 rfl) rfl
theorem q2839 : (Jvm.Cond.privateMethod ({ cls := "GraftTreesModel", name := "changing", desc := "(I)V" } : Jvm.MethodName)) ∈ lw_tbl := lw_at lw_m11 213 rfl
theorem q2840 : (Jvm.Cond.instanceMethod ({ cls := "GraftTreesModel", name := "changing", desc := "(I)V" } : Jvm.MethodName)) ∈ lw_all := lw_g (lw_at lw_m11 214 rfl) rfl
theorem q2841 : (Jvm.Cond.code ({ cls := "GraftTreesModel", name := "changing", desc := "(I)V" } : Jvm.MethodName) prog_11_method_83_code (3 : Nat) (Option.none : Option Jvm.ClassFile.FieldType)) ∈ lw_all := lw_g (lw_at lw_m11 215 rfl) rfl
theorem q2842 : (Jvm.Cond.methodLink "GraftTreesModel" (691 : Nat) ({ cls := "GraftTreesModel", name := "leave", desc := "(I)V" } : Jvm.MethodName)) ∈ lw_all := lw_g (lw_at lw_m11 216 rfl) rfl
theorem q2843 : (Jvm.Cond.privateMethod ({ cls := "GraftTreesModel", name := "leave", desc := "(I)V" } : Jvm.MethodName)) ∈ lw_tbl := lw_at lw_m11 217 rfl
theorem q2844 : (Jvm.Cond.instanceMethod ({ cls := "GraftTreesModel", name := "leave", desc := "(I)V" } : Jvm.MethodName)) ∈ lw_all := lw_g (lw_at lw_m11 218 rfl) rfl
theorem q2845 : (Jvm.Cond.code ({ cls := "GraftTreesModel", name := "leave", desc := "(I)V" } : Jvm.MethodName) prog_11_method_82_code (3 : Nat) (Option.none : Option Jvm.ClassFile.FieldType)) ∈ lw_all := lw_g (lw_at lw_m11 219 rfl) rfl
theorem q2846 : (Jvm.Cond.methodLink "GraftTreesModel" (694 : Nat) ({ cls := "GraftTreesModel", name := "endCodesOfRoot", desc := "(I)V" } : Jvm.MethodName)) ∈ lw_all := lw_g (lw_at lw_m11 220 rfl) rfl
theorem q2847 : (Jvm.Cond.privateMethod ({ cls := "GraftTreesModel", name := "endCodesOfRoot", desc := "(I)V" } : Jvm.MethodName)) ∈ lw_tbl := lw_at lw_m11 221 rfl
theorem q2848 : (Jvm.Cond.instanceMethod ({ cls := "GraftTreesModel", name := "endCodesOfRoot", desc := "(I)V" } : Jvm.MethodName)) ∈ lw_all := lw_g (lw_at lw_m11 222 rfl) rfl
theorem q2849 : (Jvm.Cond.code ({ cls := "GraftTreesModel", name := "endCodesOfRoot", desc := "(I)V" } : Jvm.MethodName) prog_11_method_76_code (5 : Nat) (Option.none : Option Jvm.ClassFile.FieldType)) ∈ lw_all := lw_g (lw_at lw_m11 223 rfl) rfl
theorem q2850 : (Jvm.Cond.methodLink "GraftTreesModel" (746 : Nat) ({ cls := "GraftTreesModel", name := "task", desc := "(II)V" } : Jvm.MethodName)) ∈ lw_all := lw_g (lw_at lw_m11 224 rfl) rfl
theorem q2851 : (Jvm.Cond.privateMethod ({ cls := "GraftTreesModel", name := "task", desc := "(II)V" } : Jvm.MethodName)) ∈ lw_tbl := lw_at lw_m11 225 rfl
theorem q2852 : (Jvm.Cond.instanceMethod ({ cls := "GraftTreesModel", name := "task", desc := "(II)V" } : Jvm.MethodName)) ∈ lw_all := lw_g (lw_at lw_m11 226 rfl) rfl
theorem q2853 : (Jvm.Cond.code ({ cls := "GraftTreesModel", name := "task", desc := "(II)V" } : Jvm.MethodName) prog_11_method_91_code (3 : Nat) (Option.none : Option Jvm.ClassFile.FieldType)) ∈ lw_all := lw_g (lw_at lw_m11 227 rfl) rfl
theorem q2854 : (Jvm.Cond.methodLink "GraftTreesModel" (938 : Nat) ({ cls := "GraftTreesModel", name := "goOn", desc := "(I)V" } : Jvm.MethodName)) ∈ lw_all := lw_g (lw_at lw_m11 228 rfl) rfl
theorem q2855 : (Jvm.Cond.privateMethod ({ cls := "GraftTreesModel", name := "goOn", desc := "(I)V" } : Jvm.MethodName)) ∈ lw_tbl := lw_at lw_m11 229 rfl
theorem q2856 : (Jvm.Cond.instanceMethod ({ cls := "GraftTreesModel", name := "goOn", desc := "(I)V" } : Jvm.MethodName)) ∈ lw_all := lw_g (lw_at lw_m11 230 rfl) rfl
theorem q2857 : (Jvm.Cond.codeWith ({ cls := "GraftTreesModel", name := "goOn", desc := "(I)V" } : Jvm.MethodName) prog_11_method_130_code (3 : Nat) (Option.none : Option Jvm.ClassFile.FieldType) [((15 : Nat), (37 : Nat), (40 : Nat), (7 : Nat))]) ∈ lw_all := lw_g (lw_at lw_m11 231 rfl) rfl
theorem q2858 : (Jvm.Cond.methodLink "GraftTreesModel" (941 : Nat) ({ cls := "GraftTreesModel", name := "work", desc := "()V" } : Jvm.MethodName)) ∈ lw_all := lw_g (lw_at lw_m11 232 rfl) rfl
theorem q2859 : (Jvm.Cond.privateMethod ({ cls := "GraftTreesModel", name := "work", desc := "()V" } : Jvm.MethodName)) ∈ lw_tbl := lw_at lw_m11 233 rfl
theorem q2860 : (Jvm.Cond.instanceMethod ({ cls := "GraftTreesModel", name := "work", desc := "()V" } : Jvm.MethodName)) ∈ lw_all := lw_g (lw_at lw_m11 234 rfl) rfl
theorem q2861 : (Jvm.Cond.code ({ cls := "GraftTreesModel", name := "work", desc := "()V" } : Jvm.MethodName) prog_11_method_101_code (3 : Nat) (Option.none : Option Jvm.ClassFile.FieldType)) ∈ lw_all := lw_g (lw_at lw_m11 235 rfl) rfl
theorem q2862 : (Jvm.Cond.methodLink "GraftTreesModel" (778 : Nat) ({ cls := "GraftTreesModel", name := "row", desc := "(I)V" } : Jvm.MethodName)) ∈ lw_all := lw_g (lw_at lw_m11 236 rfl) rfl
theorem q2863 : (Jvm.Cond.privateMethod ({ cls := "GraftTreesModel", name := "row", desc := "(I)V" } : Jvm.MethodName)) ∈ lw_tbl := lw_at lw_m11 237 rfl
theorem q2864 : (Jvm.Cond.instanceMethod ({ cls := "GraftTreesModel", name := "row", desc := "(I)V" } : Jvm.MethodName)) ∈ lw_all := lw_g (lw_at lw_m11 238 rfl) rfl
theorem q2865 : (Jvm.Cond.code ({ cls := "GraftTreesModel", name := "row", desc := "(I)V" } : Jvm.MethodName) prog_11_method_102_code (3 : Nat) (Option.none : Option Jvm.ClassFile.FieldType)) ∈ lw_all := lw_g (lw_at lw_m11 239 rfl) rfl
theorem q2866 : (Jvm.Cond.methodLink "GraftTreesModel" (784 : Nat) ({ cls := "GraftTreesModel", name := "comesBack", desc := "(IJ)V" } : Jvm.MethodName)) ∈ lw_all := lw_g (lw_at lw_m12 0 rfl) rfl
theorem q2867 : (Jvm.Cond.privateMethod ({ cls := "GraftTreesModel", name := "comesBack", desc := "(IJ)V" } : Jvm.MethodName)) ∈ lw_tbl := lw_at lw_m12 1 rfl
theorem q2868 : (Jvm.Cond.instanceMethod ({ cls := "GraftTreesModel", name := "comesBack", desc := "(IJ)V" } : Jvm.MethodName)) ∈ lw_all := lw_g (lw_at lw_m12 2 rfl) rfl
theorem q2869 : (Jvm.Cond.code ({ cls := "GraftTreesModel", name := "comesBack", desc := "(IJ)V" } : Jvm.MethodName) prog_11_method_100_code (5 : Nat) (Option.none : Option Jvm.ClassFile.FieldType)) ∈ lw_all := lw_g (lw_at lw_m12 3 rfl) rfl
theorem q2870 : (Jvm.Cond.methodLink "GraftTreesModel" (775 : Nat) ({ cls := "GraftTreesModel", name := "falls", desc := "()V" } : Jvm.MethodName)) ∈ lw_all := lw_g (lw_at lw_m12 4 rfl) rfl
theorem q2871 : (Jvm.Cond.privateMethod ({ cls := "GraftTreesModel", name := "falls", desc := "()V" } : Jvm.MethodName)) ∈ lw_tbl := lw_at lw_m12 5 rfl
theorem q2872 : (Jvm.Cond.instanceMethod ({ cls := "GraftTreesModel", name := "falls", desc := "()V" } : Jvm.MethodName)) ∈ lw_all := lw_g (lw_at lw_m12 6 rfl) rfl
theorem q2873 : (Jvm.Cond.code ({ cls := "GraftTreesModel", name := "falls", desc := "()V" } : Jvm.MethodName) prog_11_method_93_code (2 : Nat) (Option.none : Option Jvm.ClassFile.FieldType)) ∈ lw_all := lw_g (lw_at lw_m12 7 rfl) rfl
theorem q2874 : (Jvm.Cond.methodLink "GraftTreesModel" (787 : Nat) ({ cls := "GraftTreesModel", name := "step", desc := "(I)Z" } : Jvm.MethodName)) ∈ lw_all := lw_g (lw_at lw_m12 8 rfl) rfl
theorem q2875 : (Jvm.Cond.privateMethod ({ cls := "GraftTreesModel", name := "step", desc := "(I)Z" } : Jvm.MethodName)) ∈ lw_tbl := lw_at lw_m12 9 rfl
theorem q2876 : (Jvm.Cond.instanceMethod ({ cls := "GraftTreesModel", name := "step", desc := "(I)Z" } : Jvm.MethodName)) ∈ lw_all := lw_g (lw_at lw_m12 10 rfl) rfl
theorem q2877 : (Jvm.Cond.code ({ cls := "GraftTreesModel", name := "step", desc := "(I)Z" } : Jvm.MethodName) prog_11_method_92_code (2 : Nat) (Option.some Jvm.ClassFile.FieldType.boolean)) ∈ lw_all := lw_g (lw_at lw_m12 11 rfl) rfl
theorem q2878 : (Jvm.Cond.methodLink "GraftTreesModel" (726 : Nat) ({ cls := "GraftTreesModel", name := "error", desc := "(II)LGraftTreesModel$Stop;" } : Jvm.MethodName)) ∈ lw_all := lw_g (lw_at lw_m12 12 rfl) rfl
theorem q2879 : (Jvm.Cond.privateMethod ({ cls := "GraftTreesModel", name := "error", desc := "(II)LGraftTreesModel$Stop;" } : Jvm.MethodName)) ∈ lw_tbl := lw_at lw_m12 13 rfl
theorem q2880 : (Jvm.Cond.instanceMethod ({ cls := "GraftTreesModel", name := "error", desc := "(II)LGraftTreesModel$Stop;" } : Jvm.MethodName)) ∈ lw_all := lw_g (lw_at lw_m12 14 rfl) rfl
theorem q2881 : (Jvm.Cond.code ({ cls := "GraftTreesModel", name := "error", desc := "(II)LGraftTreesModel$Stop;" } : Jvm.MethodName) prog_11_method_89_code (3 : Nat) (Option.some (Jvm.ClassFile.FieldType.object "GraftTreesModel$Stop"))) ∈ lw_all := lw_g (lw_at lw_m12 15 rfl) rfl
theorem q2882 : (Jvm.Cond.methodLink "GraftTreesModel" (781 : Nat) ({ cls := "GraftTreesModel", name := "works", desc := "(III)V" } : Jvm.MethodName)) ∈ lw_all := lw_g (lw_at lw_m12 16 rfl) rfl
theorem q2883 : (Jvm.Cond.privateMethod ({ cls := "GraftTreesModel", name := "works", desc := "(III)V" } : Jvm.MethodName)) ∈ lw_tbl := lw_at lw_m12 17 rfl
theorem q2884 : (Jvm.Cond.instanceMethod ({ cls := "GraftTreesModel", name := "works", desc := "(III)V" } : Jvm.MethodName)) ∈ lw_all := lw_g (lw_at lw_m12 18 rfl) rfl
theorem q2885 : (Jvm.Cond.code ({ cls := "GraftTreesModel", name := "works", desc := "(III)V" } : Jvm.MethodName) prog_11_method_103_code (5 : Nat) (Option.none : Option Jvm.ClassFile.FieldType)) ∈ lw_all := lw_g (lw_at lw_m12 19 rfl) rfl
theorem q2886 : (Jvm.Cond.methodLink "GraftTreesModel" (790 : Nat) ({ cls := "GraftTreesModel", name := "reckons", desc := "(II)V" } : Jvm.MethodName)) ∈ lw_all := lw_g (lw_at lw_m12 20 rfl) rfl
theorem q2887 : (Jvm.Cond.privateMethod ({ cls := "GraftTreesModel", name := "reckons", desc := "(II)V" } : Jvm.MethodName)) ∈ lw_tbl := lw_at lw_m12 21 rfl
theorem q2888 : (Jvm.Cond.instanceMethod ({ cls := "GraftTreesModel", name := "reckons", desc := "(II)V" } : Jvm.MethodName)) ∈ lw_all := lw_g (lw_at lw_m12 22 rfl) rfl
theorem q2889 : (Jvm.Cond.code ({ cls := "GraftTreesModel", name := "reckons", desc := "(II)V" } : Jvm.MethodName) prog_11_method_111_code (10 : Nat) (Option.none : Option Jvm.ClassFile.FieldType)) ∈ lw_all := lw_g (lw_at lw_m12 23 rfl) rfl
theorem q2890 : (Jvm.Cond.methodLink "GraftTreesModel" (825 : Nat) ({ cls := "GraftTreesModel", name := "joins", desc := "(I)V" } : Jvm.MethodName)) ∈ lw_all := lw_g (lw_at lw_m12 24 rfl) rfl
theorem q2891 : (Jvm.Cond.privateMethod ({ cls := "GraftTreesModel", name := "joins", desc := "(I)V" } : Jvm.MethodName)) ∈ lw_tbl := lw_at lw_m12 25 rfl
theorem q2892 : (Jvm.Cond.instanceMethod ({ cls := "GraftTreesModel", name := "joins", desc := "(I)V" } : Jvm.MethodName)) ∈ lw_all := lw_g (lw_at lw_m12 26 rfl) rfl
theorem q2893 : (Jvm.Cond.code ({ cls := "GraftTreesModel", name := "joins", desc := "(I)V" } : Jvm.MethodName) prog_11_method_115_code (2 : Nat) (Option.none : Option Jvm.ClassFile.FieldType)) ∈ lw_all := lw_g (lw_at lw_m12 27 rfl) rfl
theorem q2894 : (Jvm.Cond.methodLink "GraftTreesModel" (868 : Nat) ({ cls := "GraftTreesModel", name := "show", desc := "(IJ)V" } : Jvm.MethodName)) ∈ lw_all := lw_g (lw_at lw_m12 28 rfl) rfl
theorem q2895 : (Jvm.Cond.privateMethod ({ cls := "GraftTreesModel", name := "show", desc := "(IJ)V" } : Jvm.MethodName)) ∈ lw_tbl := lw_at lw_m12 29 rfl
theorem q2896 : (Jvm.Cond.instanceMethod ({ cls := "GraftTreesModel", name := "show", desc := "(IJ)V" } : Jvm.MethodName)) ∈ lw_all := lw_g (lw_at lw_m12 30 rfl) rfl
theorem q2897 : (Jvm.Cond.code ({ cls := "GraftTreesModel", name := "show", desc := "(IJ)V" } : Jvm.MethodName) prog_11_method_113_code (4 : Nat) (Option.none : Option Jvm.ClassFile.FieldType)) ∈ lw_all := lw_g (lw_at lw_m12 31 rfl) rfl
theorem q2898 : (Jvm.Cond.methodLink "GraftTreesModel" (861 : Nat) ({ cls := "GraftTreesModel", name := "write", desc := "(J)V" } : Jvm.MethodName)) ∈ lw_all := lw_g (lw_at lw_m12 32 rfl) rfl
theorem q2899 : (Jvm.Cond.privateMethod ({ cls := "GraftTreesModel", name := "write", desc := "(J)V" } : Jvm.MethodName)) ∈ lw_tbl := lw_at lw_m12 33 rfl
theorem q2900 : (Jvm.Cond.instanceMethod ({ cls := "GraftTreesModel", name := "write", desc := "(J)V" } : Jvm.MethodName)) ∈ lw_all := lw_g (lw_at lw_m12 34 rfl) rfl
theorem q2901 : (Jvm.Cond.code ({ cls := "GraftTreesModel", name := "write", desc := "(J)V" } : Jvm.MethodName) prog_11_method_112_code (4 : Nat) (Option.none : Option Jvm.ClassFile.FieldType)) ∈ lw_all := lw_g (lw_at lw_m12 35 rfl) rfl
theorem q2902 : (Jvm.Cond.methodLink "GraftTreesModel" (392 : Nat) ({ cls := "GraftTreesModel", name := "sizeOf", desc := "(J)I" } : Jvm.MethodName)) ∈ lw_all := lw_g (lw_at lw_m12 36 rfl) rfl
theorem q2903 : (Jvm.Cond.privateMethod ({ cls := "GraftTreesModel", name := "sizeOf", desc := "(J)I" } : Jvm.MethodName)) ∈ lw_tbl := lw_at lw_m12 37 rfl
theorem q2904 : (Jvm.Cond.instanceMethod ({ cls := "GraftTreesModel", name := "sizeOf", desc := "(J)I" } : Jvm.MethodName)) ∈ lw_all := lw_g (lw_at lw_m12 38 rfl) rfl
theorem q2905 : (Jvm.Cond.code ({ cls := "GraftTreesModel", name := "sizeOf", desc := "(J)I" } : Jvm.MethodName) prog_11_method_7_code (3 : Nat) (Option.some Jvm.ClassFile.FieldType.int)) ∈ lw_all := lw_g (lw_at lw_m12 39 rfl) rfl
theorem q2906 : (Jvm.Cond.methodLink "GraftTreesModel" (857 : Nat) ({ cls := "GraftTreesModel", name := "letter", desc := "(JI)I" } : Jvm.MethodName)) ∈ lw_all := lw_g (lw_at lw_m12 40 rfl) rfl
theorem q2907 : (Jvm.Cond.privateMethod ({ cls := "GraftTreesModel", name := "letter", desc := "(JI)I" } : Jvm.MethodName)) ∈ lw_tbl := lw_at lw_m12 41 rfl
theorem q2908 : (Jvm.Cond.instanceMethod ({ cls := "GraftTreesModel", name := "letter", desc := "(JI)I" } : Jvm.MethodName)) ∈ lw_all := lw_g (lw_at lw_m12 42 rfl) rfl
theorem q2909 : (Jvm.Cond.code ({ cls := "GraftTreesModel", name := "letter", desc := "(JI)I" } : Jvm.MethodName) prog_11_method_8_code (4 : Nat) (Option.some Jvm.ClassFile.FieldType.int)) ∈ lw_all := lw_g (lw_at lw_m12 43 rfl) rfl
theorem q2910 : (Jvm.Cond.methodLink "GraftTreesModel" (865 : Nat) ({ cls := "GraftTreesModel", name := "digits", desc := "(IJ)V" } : Jvm.MethodName)) ∈ lw_all := lw_g (lw_at lw_m12 44 rfl) rfl
theorem q2911 : (Jvm.Cond.privateMethod ({ cls := "GraftTreesModel", name := "digits", desc := "(IJ)V" } : Jvm.MethodName)) ∈ lw_tbl := lw_at lw_m12 45 rfl
theorem q2912 : (Jvm.Cond.instanceMethod ({ cls := "GraftTreesModel", name := "digits", desc := "(IJ)V" } : Jvm.MethodName)) ∈ lw_all := lw_g (lw_at lw_m12 46 rfl) rfl
theorem q2913 : (Jvm.Cond.code ({ cls := "GraftTreesModel", name := "digits", desc := "(IJ)V" } : Jvm.MethodName) prog_11_method_114_code (8 : Nat) (Option.none : Option Jvm.ClassFile.FieldType)) ∈ lw_all := lw_g (lw_at lw_m12 47 rfl) rfl
theorem q2914 : (Jvm.Cond.methodLink "GraftTreesModel" (831 : Nat) ({ cls := "GraftTreesModel", name := "spread", desc := "(IJ[I)V" } : Jvm.MethodName)) ∈ lw_all := lw_g (lw_at lw_m12 48 rfl) rfl
theorem q2915 : (Jvm.Cond.privateMethod ({ cls := "GraftTreesModel", name := "spread", desc := "(IJ[I)V" } : Jvm.MethodName)) ∈ lw_tbl := lw_at lw_m12 49 rfl
theorem q2916 : (Jvm.Cond.instanceMethod ({ cls := "GraftTreesModel", name := "spread", desc := "(IJ[I)V" } : Jvm.MethodName)) ∈ lw_all := lw_g (lw_at lw_m12 50 rfl) rfl
theorem q2917 : (Jvm.Cond.code ({ cls := "GraftTreesModel", name := "spread", desc := "(IJ[I)V" } : Jvm.MethodName) prog_11_method_10_code (9 : Nat) (Option.none : Option Jvm.ClassFile.FieldType)) ∈ lw_all := lw_g (lw_at lw_m12 51 rfl) rfl
theorem q2918 : (Jvm.Cond.constant "GraftTreesModel" (407 : Nat) (100000000 : Int32)) ∈ lw_all := lw_g (lw_at lw_m12 52 rfl) rfl
theorem q2919 : (Jvm.Cond.constant "GraftTreesModel" (847 : Nat) (100000 : Int32)) ∈ lw_all := lw_g (lw_at lw_m12 53 rfl) rfl
theorem q2920 : (Jvm.Cond.methodLink "GraftTreesModel" (871 : Nat) ({ cls := "GraftTreesModel", name := "rowOfRun", desc := "(I)I" } : Jvm.MethodName)) ∈ lw_all := lw_g (lw_at lw_m12 54 rfl) rfl
theorem q2921 : (Jvm.Cond.privateMethod ({ cls := "GraftTreesModel", name := "rowOfRun", desc := "(I)I" } : Jvm.MethodName)) ∈ lw_tbl := lw_at lw_m12 55 rfl
theorem q2922 : (Jvm.Cond.instanceMethod ({ cls := "GraftTreesModel", name := "rowOfRun", desc := "(I)I" } : Jvm.MethodName)) ∈ lw_all := lw_g (lw_at lw_m12 56 rfl) rfl
theorem q2923 : (Jvm.Cond.code ({ cls := "GraftTreesModel", name := "rowOfRun", desc := "(I)I" } : Jvm.MethodName) prog_11_method_6_code (5 : Nat) (Option.some Jvm.ClassFile.FieldType.int)) ∈ lw_all := lw_g (lw_at lw_m12 57 rfl) rfl
theorem q2924 : (Jvm.Cond.methodLink "GraftTreesModel" (848 : Nat) ({ cls := "GraftTreesModel", name := "pairBecomes", desc := "(IJ)V" } : Jvm.MethodName)) ∈ lw_all := lw_g (lw_at lw_m12 58 rfl) rfl
theorem q2925 : (Jvm.Cond.privateMethod ({ cls := "GraftTreesModel", name := "pairBecomes", desc := "(IJ)V" } : Jvm.MethodName)) ∈ lw_tbl := lw_at lw_m12 59 rfl
theorem q2926 : (Jvm.Cond.instanceMethod ({ cls := "GraftTreesModel", name := "pairBecomes", desc := "(IJ)V" } : Jvm.MethodName)) ∈ lw_all := lw_g (lw_at lw_m12 60 rfl) rfl
theorem q2927 : (Jvm.Cond.code ({ cls := "GraftTreesModel", name := "pairBecomes", desc := "(IJ)V" } : Jvm.MethodName) prog_11_method_110_code (4 : Nat) (Option.none : Option Jvm.ClassFile.FieldType)) ∈ lw_all := lw_g (lw_at lw_m12 61 rfl) rfl
theorem q2928 : (Jvm.Cond.methodLink "GraftTreesModel" (828 : Nat) ({ cls := "GraftTreesModel", name := "isNumber", desc := "(I)Z" } : Jvm.MethodName)) ∈ lw_all := lw_g (lw_at lw_m12 62 rfl) rfl
theorem q2929 : (Jvm.Cond.static ({ cls := "GraftTreesModel", name := "isNumber", desc := "(I)Z" } : Jvm.MethodName)) ∈ lw_all := lw_g (lw_at lw_m12 63 rfl) rfl
theorem q2930 : (Jvm.Cond.code ({ cls := "GraftTreesModel", name := "isNumber", desc := "(I)Z" } : Jvm.MethodName) prog_11_method_109_code (1 : Nat) (Option.some Jvm.ClassFile.FieldType.boolean)) ∈ lw_all := lw_g (lw_at lw_m12 64 rfl) rfl
theorem q2931 : (Jvm.Cond.methodLink "GraftTreesModel" (398 : Nat) ({ cls := "GraftTreesModel", name := "isZero", desc := "([I)Z" } : Jvm.MethodName)) ∈ lw_all := lw_g (lw_at lw_m12 65 rfl) rfl
theorem q2932 : (Jvm.Cond.static ({ cls := "GraftTreesModel", name := "isZero", desc := "([I)Z" } : Jvm.MethodName)) ∈ lw_all := lw_g (lw_at lw_m12 66 rfl) rfl
theorem q2933 : (Jvm.Cond.code ({ cls := "GraftTreesModel", name := "isZero", desc := "([I)Z" } : Jvm.MethodName) prog_11_method_12_code (1 : Nat) (Option.some Jvm.ClassFile.FieldType.boolean)) ∈ lw_all := lw_g (lw_at lw_m12 67 rfl) rfl
theorem q2934 : (Jvm.Cond.methodLink "GraftTreesModel" (835 : Nat) ({ cls := "GraftTreesModel", name := "divides", desc := "()V" } : Jvm.MethodName)) ∈ lw_all := lw_g (lw_at lw_m12 68 rfl) rfl
theorem q2935 : (Jvm.Cond.privateMethod ({ cls := "GraftTreesModel", name := "divides", desc := "()V" } : Jvm.MethodName)) ∈ lw_tbl := lw_at lw_m12 69 rfl
theorem q2936 : (Jvm.Cond.instanceMethod ({ cls := "GraftTreesModel", name := "divides", desc := "()V" } : Jvm.MethodName)) ∈ lw_all := lw_g (lw_at lw_m12 70 rfl) rfl
theorem q2937 : (Jvm.Cond.code ({ cls := "GraftTreesModel", name := "divides", desc := "()V" } : Jvm.MethodName) prog_11_method_16_code (9 : Nat) (Option.none : Option Jvm.ClassFile.FieldType)) ∈ lw_all := lw_g (lw_at lw_m12 71 rfl) rfl
theorem q2938 : (Jvm.Cond.constantLong "GraftTreesModel" (408 : Nat) (10 : Int64)) ∈ lw_all := lw_g (lw_at lw_m12 72 rfl) rfl
theorem q2939 : (Jvm.Cond.methodLink "GraftTreesModel" (402 : Nat) ({ cls := "GraftTreesModel", name := "compareSizes", desc := "([I[I)I" } : Jvm.MethodName)) ∈ lw_all := lw_g (lw_at lw_m12 73 rfl) rfl
theorem q2940 : (Jvm.Cond.static ({ cls := "GraftTreesModel", name := "compareSizes", desc := "([I[I)I" } : Jvm.MethodName)) ∈ lw_all := lw_g (lw_at lw_m12 74 rfl) rfl
theorem q2941 : (Jvm.Cond.code ({ cls := "GraftTreesModel", name := "compareSizes", desc := "([I[I)I" } : Jvm.MethodName) prog_11_method_11_code (3 : Nat) (Option.some Jvm.ClassFile.FieldType.int)) ∈ lw_all := lw_g (lw_at lw_m12 75 rfl) rfl
theorem q2942 : (Jvm.Cond.methodLink "GraftTreesModel" (838 : Nat) ({ cls := "GraftTreesModel", name := "multiplies", desc := "()Z" } : Jvm.MethodName)) ∈ lw_all := lw_g (lw_at lw_m12 76 rfl) rfl
theorem q2943 : (Jvm.Cond.privateMethod ({ cls := "GraftTreesModel", name := "multiplies", desc := "()Z" } : Jvm.MethodName)) ∈ lw_tbl := lw_at lw_m12 77 rfl
theorem q2944 : (Jvm.Cond.instanceMethod ({ cls := "GraftTreesModel", name := "multiplies", desc := "()Z" } : Jvm.MethodName)) ∈ lw_all := lw_g (lw_at lw_m12 78 rfl) rfl
theorem q2945 : (Jvm.Cond.code ({ cls := "GraftTreesModel", name := "multiplies", desc := "()Z" } : Jvm.MethodName) prog_11_method_15_code (3 : Nat) (Option.some Jvm.ClassFile.FieldType.boolean)) ∈ lw_all := lw_g (lw_at lw_m12 79 rfl) rfl
theorem q2946 : (Jvm.Cond.methodLink "GraftTreesModel" (841 : Nat) ({ cls := "GraftTreesModel", name := "adds", desc := "()Z" } : Jvm.MethodName)) ∈ lw_all := lw_g (lw_at lw_m12 80 rfl) rfl
theorem q2947 : (Jvm.Cond.privateMethod ({ cls := "GraftTreesModel", name := "adds", desc := "()Z" } : Jvm.MethodName)) ∈ lw_tbl := lw_at lw_m12 81 rfl
theorem q2948 : (Jvm.Cond.instanceMethod ({ cls := "GraftTreesModel", name := "adds", desc := "()Z" } : Jvm.MethodName)) ∈ lw_all := lw_g (lw_at lw_m12 82 rfl) rfl
theorem q2949 : (Jvm.Cond.code ({ cls := "GraftTreesModel", name := "adds", desc := "()Z" } : Jvm.MethodName) prog_11_method_14_code (7 : Nat) (Option.some Jvm.ClassFile.FieldType.boolean)) ∈ lw_all := lw_g (lw_at lw_m12 83 rfl) rfl
theorem q2950 : (Jvm.Cond.methodLink "GraftTreesModel" (793 : Nat) ({ cls := "GraftTreesModel", name := "orders", desc := "(II)V" } : Jvm.MethodName)) ∈ lw_all := lw_g (lw_at lw_m12 84 rfl) rfl
theorem q2951 : (Jvm.Cond.privateMethod ({ cls := "GraftTreesModel", name := "orders", desc := "(II)V" } : Jvm.MethodName)) ∈ lw_tbl := lw_at lw_m12 85 rfl
theorem q2952 : (Jvm.Cond.instanceMethod ({ cls := "GraftTreesModel", name := "orders", desc := "(II)V" } : Jvm.MethodName)) ∈ lw_all := lw_g (lw_at lw_m12 86 rfl) rfl
theorem q2953 : (Jvm.Cond.code ({ cls := "GraftTreesModel", name := "orders", desc := "(II)V" } : Jvm.MethodName) prog_11_method_117_code (8 : Nat) (Option.none : Option Jvm.ClassFile.FieldType)) ∈ lw_all := lw_g (lw_at lw_m12 87 rfl) rfl
theorem q2954 : (Jvm.Cond.methodLink "GraftTreesModel" (877 : Nat) ({ cls := "GraftTreesModel", name := "comparePair", desc := "()I" } : Jvm.MethodName)) ∈ lw_all := lw_g (lw_at lw_m12 88 rfl) rfl
theorem q2955 : (Jvm.Cond.privateMethod ({ cls := "GraftTreesModel", name := "comparePair", desc := "()I" } : Jvm.MethodName)) ∈ lw_tbl := lw_at lw_m12 89 rfl
theorem q2956 : (Jvm.Cond.instanceMethod ({ cls := "GraftTreesModel", name := "comparePair", desc := "()I" } : Jvm.MethodName)) ∈ lw_all := lw_g (lw_at lw_m12 90 rfl) rfl
theorem q2957 : (Jvm.Cond.code ({ cls := "GraftTreesModel", name := "comparePair", desc := "()I" } : Jvm.MethodName) prog_11_method_116_code (1 : Nat) (Option.some Jvm.ClassFile.FieldType.int)) ∈ lw_all := lw_g (lw_at lw_m12 91 rfl) rfl
theorem q2958 : (Jvm.Cond.methodLink "GraftTreesModel" (874 : Nat) ({ cls := "GraftTreesModel", name := "compare", desc := "([I[I)I" } : Jvm.MethodName)) ∈ lw_all := lw_g (lw_at lw_m12 92 rfl) rfl
theorem q2959 : (Jvm.Cond.static ({ cls := "GraftTreesModel", name := "compare", desc := "([I[I)I" } : Jvm.MethodName)) ∈ lw_all := lw_g (lw_at lw_m12 93 rfl) rfl
theorem q2960 : (Jvm.Cond.code ({ cls := "GraftTreesModel", name := "compare", desc := "([I[I)I" } : Jvm.MethodName) prog_11_method_13_code (2 : Nat) (Option.some Jvm.ClassFile.FieldType.int)) ∈ lw_all := lw_g (lw_at lw_m12 94 rfl) rfl
theorem q2961 : (Jvm.Cond.methodLink "GraftTreesModel" (796 : Nat) ({ cls := "GraftTreesModel", name := "compares", desc := "(II)V" } : Jvm.MethodName)) ∈ lw_all := lw_g (lw_at lw_m12 95 rfl) rfl
theorem q2962 : (Jvm.Cond.privateMethod ({ cls := "GraftTreesModel", name := "compares", desc := "(II)V" } : Jvm.MethodName)) ∈ lw_tbl := lw_at lw_m12 96 rfl
theorem q2963 : (Jvm.Cond.instanceMethod ({ cls := "GraftTreesModel", name := "compares", desc := "(II)V" } : Jvm.MethodName)) ∈ lw_all := lw_g (lw_at lw_m12 97 rfl) rfl
theorem q2964 : (Jvm.Cond.code ({ cls := "GraftTreesModel", name := "compares", desc := "(II)V" } : Jvm.MethodName) prog_11_method_118_code (11 : Nat) (Option.none : Option Jvm.ClassFile.FieldType)) ∈ lw_all := lw_g (lw_at lw_m12 98 rfl) rfl
theorem q2965 : (Jvm.Cond.methodLink "GraftTreesModel" (637 : Nat) ({ cls := "GraftTreesModel", name := "isSame", desc := "(JJ)Z" } : Jvm.MethodName)) ∈ lw_all := lw_g (lw_at lw_m12 99 rfl) rfl
theorem q2966 : (Jvm.Cond.privateMethod ({ cls := "GraftTreesModel", name := "isSame", desc := "(JJ)Z" } : Jvm.MethodName)) ∈ lw_tbl := lw_at lw_m12 100 rfl
theorem q2967 : (Jvm.Cond.instanceMethod ({ cls := "GraftTreesModel", name := "isSame", desc := "(JJ)Z" } : Jvm.MethodName)) ∈ lw_all := lw_g (lw_at lw_m12 101 rfl) rfl
theorem q2968 : (Jvm.Cond.code ({ cls := "GraftTreesModel", name := "isSame", desc := "(JJ)Z" } : Jvm.MethodName) prog_11_method_9_code (5 : Nat) (Option.some Jvm.ClassFile.FieldType.boolean)) ∈ lw_all := lw_g (lw_at lw_m12 102 rfl) rfl
theorem q2969 : (Jvm.Cond.methodLink "GraftTreesModel" (799 : Nat) ({ cls := "GraftTreesModel", name := "reads", desc := "(I)V" } : Jvm.MethodName)) ∈ lw_all := lw_g (lw_at lw_m12 103 rfl) rfl
theorem q2970 : (Jvm.Cond.privateMethod ({ cls := "GraftTreesModel", name := "reads", desc := "(I)V" } : Jvm.MethodName)) ∈ lw_tbl := lw_at lw_m12 104 rfl
theorem q2971 : (Jvm.Cond.instanceMethod ({ cls := "GraftTreesModel", name := "reads", desc := "(I)V" } : Jvm.MethodName)) ∈ lw_all := lw_g (lw_at lw_m12 105 rfl) rfl
theorem q2972 : (Jvm.Cond.code ({ cls := "GraftTreesModel", name := "reads", desc := "(I)V" } : Jvm.MethodName) prog_11_method_99_code (4 : Nat) (Option.none : Option Jvm.ClassFile.FieldType)) ∈ lw_all := lw_g (lw_at lw_m12 106 rfl) rfl
theorem q2973 : (Jvm.Cond.methodLink "GraftTreesModel" (802 : Nat) ({ cls := "GraftTreesModel", name := "begun", desc := "(II)Z" } : Jvm.MethodName)) ∈ lw_all := lw_g (lw_at lw_m12 107 rfl) rfl
theorem q2974 : (Jvm.Cond.privateMethod ({ cls := "GraftTreesModel", name := "begun", desc := "(II)Z" } : Jvm.MethodName)) ∈ lw_tbl := lw_at lw_m12 108 rfl
theorem q2975 : (Jvm.Cond.instanceMethod ({ cls := "GraftTreesModel", name := "begun", desc := "(II)Z" } : Jvm.MethodName)) ∈ lw_all := lw_g (lw_at lw_m12 109 rfl) rfl
theorem q2976 : (Jvm.Cond.code ({ cls := "GraftTreesModel", name := "begun", desc := "(II)Z" } : Jvm.MethodName) prog_11_method_104_code (3 : Nat) (Option.some Jvm.ClassFile.FieldType.boolean)) ∈ lw_all := lw_g (lw_at lw_m12 110 rfl) rfl
theorem q2977 : (Jvm.Cond.methodLink "GraftTreesModel" (805 : Nat) ({ cls := "GraftTreesModel", name := "eitherOrBoth", desc := "(III)V" } : Jvm.MethodName)) ∈ lw_all := lw_g (lw_at lw_m12 111 rfl) rfl
theorem q2978 : (Jvm.Cond.privateMethod ({ cls := "GraftTreesModel", name := "eitherOrBoth", desc := "(III)V" } : Jvm.MethodName)) ∈ lw_tbl := lw_at lw_m12 112 rfl
theorem q2979 : (Jvm.Cond.instanceMethod ({ cls := "GraftTreesModel", name := "eitherOrBoth", desc := "(III)V" } : Jvm.MethodName)) ∈ lw_all := lw_g (lw_at lw_m12 113 rfl) rfl
theorem q2980 : (Jvm.Cond.code ({ cls := "GraftTreesModel", name := "eitherOrBoth", desc := "(III)V" } : Jvm.MethodName) prog_11_method_108_code (8 : Nat) (Option.none : Option Jvm.ClassFile.FieldType)) ∈ lw_all := lw_g (lw_at lw_m12 114 rfl) rfl
theorem q2981 : (Jvm.Cond.methodLink "GraftTreesModel" (808 : Nat) ({ cls := "GraftTreesModel", name := "truth", desc := "(I)Z" } : Jvm.MethodName)) ∈ lw_all := lw_g (lw_at lw_m12 115 rfl) rfl
theorem q2982 : (Jvm.Cond.privateMethod ({ cls := "GraftTreesModel", name := "truth", desc := "(I)Z" } : Jvm.MethodName)) ∈ lw_tbl := lw_at lw_m12 116 rfl
theorem q2983 : (Jvm.Cond.instanceMethod ({ cls := "GraftTreesModel", name := "truth", desc := "(I)Z" } : Jvm.MethodName)) ∈ lw_all := lw_g (lw_at lw_m12 117 rfl) rfl
theorem q2984 : (Jvm.Cond.code ({ cls := "GraftTreesModel", name := "truth", desc := "(I)Z" } : Jvm.MethodName) prog_11_method_105_code (2 : Nat) (Option.some Jvm.ClassFile.FieldType.boolean)) ∈ lw_all := lw_g (lw_at lw_m12 118 rfl) rfl
theorem q2985 : (Jvm.Cond.methodLink "GraftTreesModel" (810 : Nat) ({ cls := "GraftTreesModel", name := "gets", desc := "(II)V" } : Jvm.MethodName)) ∈ lw_all := lw_g (lw_at lw_m12 119 rfl) rfl
theorem q2986 : (Jvm.Cond.privateMethod ({ cls := "GraftTreesModel", name := "gets", desc := "(II)V" } : Jvm.MethodName)) ∈ lw_tbl := lw_at lw_m12 120 rfl
theorem q2987 : (Jvm.Cond.instanceMethod ({ cls := "GraftTreesModel", name := "gets", desc := "(II)V" } : Jvm.MethodName)) ∈ lw_all := lw_g (lw_at lw_m12 121 rfl) rfl
theorem q2988 : (Jvm.Cond.code ({ cls := "GraftTreesModel", name := "gets", desc := "(II)V" } : Jvm.MethodName) prog_11_method_120_code (7 : Nat) (Option.none : Option Jvm.ClassFile.FieldType)) ∈ lw_all := lw_g (lw_at lw_m12 122 rfl) rfl
theorem q2989 : (Jvm.Cond.methodLink "GraftTreesModel" (880 : Nat) ({ cls := "GraftTreesModel", name := "nameAt", desc := "(II)J" } : Jvm.MethodName)) ∈ lw_all := lw_g (lw_at lw_m12 123 rfl) rfl
theorem q2990 : (Jvm.Cond.privateMethod ({ cls := "GraftTreesModel", name := "nameAt", desc := "(II)J" } : Jvm.MethodName)) ∈ lw_tbl := lw_at lw_m12 124 rfl
theorem q2991 : (Jvm.Cond.instanceMethod ({ cls := "GraftTreesModel", name := "nameAt", desc := "(II)J" } : Jvm.MethodName)) ∈ lw_all := lw_g (lw_at lw_m12 125 rfl) rfl
theorem q2992 : (Jvm.Cond.code ({ cls := "GraftTreesModel", name := "nameAt", desc := "(II)J" } : Jvm.MethodName) prog_11_method_119_code (3 : Nat) (Option.some Jvm.ClassFile.FieldType.long)) ∈ lw_all := lw_g (lw_at lw_m12 126 rfl) rfl
theorem q2993 : (Jvm.Cond.methodLink "GraftTreesModel" (884 : Nat) ({ cls := "GraftTreesModel", name := "propertyAt", desc := "(IJ)I" } : Jvm.MethodName)) ∈ lw_all := lw_g (lw_at lw_m12 127 rfl) rfl
theorem q2994 : (Jvm.Cond.privateMethod ({ cls := "GraftTreesModel", name := "propertyAt", desc := "(IJ)I" } : Jvm.MethodName)) ∈ lw_tbl := lw_at lw_m12 128 rfl
theorem q2995 : (Jvm.Cond.instanceMethod ({ cls := "GraftTreesModel", name := "propertyAt", desc := "(IJ)I" } : Jvm.MethodName)) ∈ lw_all := lw_g (lw_at lw_m12 129 rfl) rfl
theorem q2996 : (Jvm.Cond.code ({ cls := "GraftTreesModel", name := "propertyAt", desc := "(IJ)I" } : Jvm.MethodName) prog_11_method_61_code (5 : Nat) (Option.some Jvm.ClassFile.FieldType.int)) ∈ lw_all := lw_g (lw_at lw_m12 130 rfl) rfl
theorem q2997 : (Jvm.Cond.methodLink "GraftTreesModel" (888 : Nat) ({ cls := "GraftTreesModel", name := "moves", desc := "(I)V" } : Jvm.MethodName)) ∈ lw_all := lw_g (lw_at lw_m12 131 rfl) rfl
theorem q2998 : (Jvm.Cond.privateMethod ({ cls := "GraftTreesModel", name := "moves", desc := "(I)V" } : Jvm.MethodName)) ∈ lw_tbl := lw_at lw_m12 132 rfl
theorem q2999 : (Jvm.Cond.instanceMethod ({ cls := "GraftTreesModel", name := "moves", desc := "(I)V" } : Jvm.MethodName)) ∈ lw_all := lw_g (lw_at lw_m12 133 rfl) rfl
theorem q3000 : (Jvm.Cond.code ({ cls := "GraftTreesModel", name := "moves", desc := "(I)V" } : Jvm.MethodName) prog_11_method_68_code (2 : Nat) (Option.none : Option Jvm.ClassFile.FieldType)) ∈ lw_all := lw_g (lw_at lw_m12 134 rfl) rfl
theorem q3001 : (Jvm.Cond.methodLink "GraftTreesModel" (891 : Nat) ({ cls := "GraftTreesModel", name := "enter", desc := "(IIIII)V" } : Jvm.MethodName)) ∈ lw_all := lw_g (lw_at lw_m12 135 rfl) rfl
theorem q3002 : (Jvm.Cond.privateMethod ({ cls := "GraftTreesModel", name := "enter", desc := "(IIIII)V" } : Jvm.MethodName)) ∈ lw_tbl := lw_at lw_m12 136 rfl
theorem q3003 : (Jvm.Cond.instanceMethod ({ cls := "GraftTreesModel", name := "enter", desc := "(IIIII)V" } : Jvm.MethodName)) ∈ lw_all := lw_g (lw_at lw_m12 137 rfl) rfl
theorem q3004 : (Jvm.Cond.code ({ cls := "GraftTreesModel", name := "enter", desc := "(IIIII)V" } : Jvm.MethodName) prog_11_method_87_code (10 : Nat) (Option.none : Option Jvm.ClassFile.FieldType)) ∈ lw_all := lw_g (lw_at lw_m12 138 rfl) rfl
theorem q3005 : (Jvm.Cond.methodLink "GraftTreesModel" (700 : Nat) ({ cls := "GraftTreesModel", name := "isStale", desc := "(II)Z" } : Jvm.MethodName)) ∈ lw_all := lw_g (lw_at lw_m12 139 rfl) rfl
theorem q3006 : (Jvm.Cond.privateMethod ({ cls := "GraftTreesModel", name := "isStale", desc := "(II)Z" } : Jvm.MethodName)) ∈ lw_tbl := lw_at lw_m12 140 rfl
theorem q3007 : (Jvm.Cond.instanceMethod ({ cls := "GraftTreesModel", name := "isStale", desc := "(II)Z" } : Jvm.MethodName)) ∈ lw_all := lw_g (lw_at lw_m12 141 rfl) rfl
theorem q3008 : (Jvm.Cond.code ({ cls := "GraftTreesModel", name := "isStale", desc := "(II)Z" } : Jvm.MethodName) prog_11_method_88_code (3 : Nat) (Option.some Jvm.ClassFile.FieldType.boolean)) ∈ lw_all := lw_g (lw_at lw_m12 142 rfl) rfl
theorem q3009 : (Jvm.Cond.methodLink "GraftTreesModel" (813 : Nat) ({ cls := "GraftTreesModel", name := "puts", desc := "(II)V" } : Jvm.MethodName)) ∈ lw_all := lw_g (lw_at lw_m12 143 rfl) rfl
theorem q3010 : (Jvm.Cond.privateMethod ({ cls := "GraftTreesModel", name := "puts", desc := "(II)V" } : Jvm.MethodName)) ∈ lw_tbl := lw_at lw_m12 144 rfl
theorem q3011 : (Jvm.Cond.instanceMethod ({ cls := "GraftTreesModel", name := "puts", desc := "(II)V" } : Jvm.MethodName)) ∈ lw_all := lw_g (lw_at lw_m12 145 rfl) rfl
theorem q3012 : (Jvm.Cond.code ({ cls := "GraftTreesModel", name := "puts", desc := "(II)V" } : Jvm.MethodName) prog_11_method_121_code (15 : Nat) (Option.none : Option Jvm.ClassFile.FieldType)) ∈ lw_all := lw_g (lw_at lw_m12 146 rfl) rfl
theorem q3013 : (Jvm.Cond.methodLink "GraftTreesModel" (894 : Nat) ({ cls := "GraftTreesModel", name := "heirOf", desc := "(I)I" } : Jvm.MethodName)) ∈ lw_all := lw_g (lw_at lw_m12 147 rfl) rfl
theorem q3014 : (Jvm.Cond.privateMethod ({ cls := "GraftTreesModel", name := "heirOf", desc := "(I)I" } : Jvm.MethodName)) ∈ lw_tbl := lw_at lw_m12 148 rfl
theorem q3015 : (Jvm.Cond.instanceMethod ({ cls := "GraftTreesModel", name := "heirOf", desc := "(I)I" } : Jvm.MethodName)) ∈ lw_all := lw_g (lw_at lw_m12 149 rfl) rfl
theorem q3016 : (Jvm.Cond.code ({ cls := "GraftTreesModel", name := "heirOf", desc := "(I)I" } : Jvm.MethodName) prog_11_method_67_code (3 : Nat) (Option.some Jvm.ClassFile.FieldType.int)) ∈ lw_all := lw_g (lw_at lw_m12 150 rfl) rfl
theorem q3017 : (Jvm.Cond.methodLink "GraftTreesModel" (644 : Nat) ({ cls := "GraftTreesModel", name := "childOf", desc := "(IJI)I" } : Jvm.MethodName)) ∈ lw_all := lw_g (lw_at lw_m12 151 rfl) rfl
theorem q3018 : (Jvm.Cond.privateMethod ({ cls := "GraftTreesModel", name := "childOf", desc := "(IJI)I" } : Jvm.MethodName)) ∈ lw_tbl := lw_at lw_m12 152 rfl
theorem q3019 : (Jvm.Cond.instanceMethod ({ cls := "GraftTreesModel", name := "childOf", desc := "(IJI)I" } : Jvm.MethodName)) ∈ lw_all := lw_g (lw_at lw_m12 153 rfl) rfl
theorem q3020 : (Jvm.Cond.code ({ cls := "GraftTreesModel", name := "childOf", desc := "(IJI)I" } : Jvm.MethodName) prog_11_method_63_code (6 : Nat) (Option.some Jvm.ClassFile.FieldType.int)) ∈ lw_all := lw_g (lw_at lw_m12 154 rfl) rfl
theorem q3021 : (Jvm.Cond.methodLink "GraftTreesModel" (648 : Nat) ({ cls := "GraftTreesModel", name := "shapeComes", desc := "(IJI)I" } : Jvm.MethodName)) ∈ lw_all := lw_g (lw_at lw_m12 155 rfl) rfl
theorem q3022 : (Jvm.Cond.privateMethod ({ cls := "GraftTreesModel", name := "shapeComes", desc := "(IJI)I" } : Jvm.MethodName)) ∈ lw_tbl := lw_at lw_m12 156 rfl
theorem q3023 : (Jvm.Cond.instanceMethod ({ cls := "GraftTreesModel", name := "shapeComes", desc := "(IJI)I" } : Jvm.MethodName)) ∈ lw_all := lw_g (lw_at lw_m12 157 rfl) rfl
theorem q3024 : (Jvm.Cond.code ({ cls := "GraftTreesModel", name := "shapeComes", desc := "(IJI)I" } : Jvm.MethodName) prog_11_method_64_code (6 : Nat) (Option.some Jvm.ClassFile.FieldType.int)) ∈ lw_all := lw_g (lw_at lw_m12 158 rfl) rfl
theorem q3025 : (Jvm.Cond.methodLink "GraftTreesModel" (641 : Nat) ({ cls := "GraftTreesModel", name := "withLast", desc := "(II)I" } : Jvm.MethodName)) ∈ lw_all := lw_g (lw_at lw_m12 159 rfl) rfl
theorem q3026 : (Jvm.Cond.privateMethod ({ cls := "GraftTreesModel", name := "withLast", desc := "(II)I" } : Jvm.MethodName)) ∈ lw_tbl := lw_at lw_m12 160 rfl
theorem q3027 : (Jvm.Cond.instanceMethod ({ cls := "GraftTreesModel", name := "withLast", desc := "(II)I" } : Jvm.MethodName)) ∈ lw_all := lw_g (lw_at lw_m12 161 rfl) rfl
theorem q3028 : (Jvm.Cond.code ({ cls := "GraftTreesModel", name := "withLast", desc := "(II)I" } : Jvm.MethodName) prog_11_method_62_code (4 : Nat) (Option.some Jvm.ClassFile.FieldType.int)) ∈ lw_all := lw_g (lw_at lw_m12 162 rfl) rfl
theorem q3029 : (Jvm.Cond.methodLink "GraftTreesModel" (897 : Nat) ({ cls := "GraftTreesModel", name := "lacking", desc := "(II)I" } : Jvm.MethodName)) ∈ lw_all := lw_g (lw_at lw_m12 163 rfl) rfl
theorem q3030 : (Jvm.Cond.privateMethod ({ cls := "GraftTreesModel", name := "lacking", desc := "(II)I" } : Jvm.MethodName)) ∈ lw_tbl := lw_at lw_m12 164 rfl
theorem q3031 : (Jvm.Cond.instanceMethod ({ cls := "GraftTreesModel", name := "lacking", desc := "(II)I" } : Jvm.MethodName)) ∈ lw_all := lw_g (lw_at lw_m12 165 rfl) rfl
theorem q3032 : (Jvm.Cond.code ({ cls := "GraftTreesModel", name := "lacking", desc := "(II)I" } : Jvm.MethodName) prog_11_method_65_code (6 : Nat) (Option.some Jvm.ClassFile.FieldType.int)) ∈ lw_all := lw_g (lw_at lw_m12 166 rfl) rfl
theorem q3033 : (Jvm.Cond.methodLink "GraftTreesModel" (900 : Nat) ({ cls := "GraftTreesModel", name := "heirComes", desc := "(II)I" } : Jvm.MethodName)) ∈ lw_all := lw_g (lw_at lw_m12 167 rfl) rfl
theorem q3034 : (Jvm.Cond.privateMethod ({ cls := "GraftTreesModel", name := "heirComes", desc := "(II)I" } : Jvm.MethodName)) ∈ lw_tbl := lw_at lw_m12 168 rfl
theorem q3035 : (Jvm.Cond.instanceMethod ({ cls := "GraftTreesModel", name := "heirComes", desc := "(II)I" } : Jvm.MethodName)) ∈ lw_all := lw_g (lw_at lw_m12 169 rfl) rfl
theorem q3036 : (Jvm.Cond.code ({ cls := "GraftTreesModel", name := "heirComes", desc := "(II)I" } : Jvm.MethodName) prog_11_method_66_code (8 : Nat) (Option.some Jvm.ClassFile.FieldType.int)) ∈ lw_all := lw_g (lw_at lw_m12 170 rfl) rfl
theorem q3037 : (Jvm.Cond.methodLink "GraftTreesModel" (903 : Nat) ({ cls := "GraftTreesModel", name := "endCodesOfShape", desc := "(I)V" } : Jvm.MethodName)) ∈ lw_all := lw_g (lw_at lw_m12 171 rfl) rfl
theorem q3038 : (Jvm.Cond.privateMethod ({ cls := "GraftTreesModel", name := "endCodesOfShape", desc := "(I)V" } : Jvm.MethodName)) ∈ lw_tbl := lw_at lw_m12 172 rfl
theorem q3039 : (Jvm.Cond.instanceMethod ({ cls := "GraftTreesModel", name := "endCodesOfShape", desc := "(I)V" } : Jvm.MethodName)) ∈ lw_all := lw_g (lw_at lw_m12 173 rfl) rfl
theorem q3040 : (Jvm.Cond.code ({ cls := "GraftTreesModel", name := "endCodesOfShape", desc := "(I)V" } : Jvm.MethodName) prog_11_method_78_code (8 : Nat) (Option.none : Option Jvm.ClassFile.FieldType)) ∈ lw_all := lw_g (lw_at lw_m12 174 rfl) rfl
theorem q3041 : (Jvm.Cond.methodLink "GraftTreesModel" (816 : Nat) ({ cls := "GraftTreesModel", name := "calls", desc := "(II)V" } : Jvm.MethodName)) ∈ lw_all := lw_g (lw_at lw_m12 175 rfl) rfl
theorem q3042 : (Jvm.Cond.privateMethod ({ cls := "GraftTreesModel", name := "calls", desc := "(II)V" } : Jvm.MethodName)) ∈ lw_tbl := lw_at lw_m12 176 rfl
theorem q3043 : (Jvm.Cond.instanceMethod ({ cls := "GraftTreesModel", name := "calls", desc := "(II)V" } : Jvm.MethodName)) ∈ lw_all := lw_g (lw_at lw_m12 177 rfl) rfl
theorem q3044 : (Jvm.Cond.code ({ cls := "GraftTreesModel", name := "calls", desc := "(II)V" } : Jvm.MethodName) prog_11_method_122_code (15 : Nat) (Option.none : Option Jvm.ClassFile.FieldType)) ∈ lw_all := lw_g (lw_at lw_m12 178 rfl) rfl
theorem q3045 : (Jvm.Cond.methodLink "GraftTreesModel" (910 : Nat) ({ cls := "GraftTreesModel", name := "prints", desc := "(I)V" } : Jvm.MethodName)) ∈ lw_all := lw_g (lw_at lw_m12 179 rfl) rfl
theorem q3046 : (Jvm.Cond.privateMethod ({ cls := "GraftTreesModel", name := "prints", desc := "(I)V" } : Jvm.MethodName)) ∈ lw_tbl := lw_at lw_m12 180 rfl
theorem q3047 : (Jvm.Cond.instanceMethod ({ cls := "GraftTreesModel", name := "prints", desc := "(I)V" } : Jvm.MethodName)) ∈ lw_all := lw_g (lw_at lw_m12 181 rfl) rfl
theorem q3048 : (Jvm.Cond.code ({ cls := "GraftTreesModel", name := "prints", desc := "(I)V" } : Jvm.MethodName) prog_11_method_123_code (2 : Nat) (Option.none : Option Jvm.ClassFile.FieldType)) ∈ lw_all := lw_g (lw_at lw_m12 182 rfl) rfl
theorem q3049 : (Jvm.Cond.methodLink "GraftTreesModel" (916 : Nat) ({ cls := "GraftTreesModel", name := "defines", desc := "(IIJ)V" } : Jvm.MethodName)) ∈ lw_all := lw_g (lw_at lw_m12 183 rfl) rfl
theorem q3050 : (Jvm.Cond.privateMethod ({ cls := "GraftTreesModel", name := "defines", desc := "(IIJ)V" } : Jvm.MethodName)) ∈ lw_tbl := lw_at lw_m12 184 rfl
theorem q3051 : (Jvm.Cond.instanceMethod ({ cls := "GraftTreesModel", name := "defines", desc := "(IIJ)V" } : Jvm.MethodName)) ∈ lw_all := lw_g (lw_at lw_m12 185 rfl) rfl
theorem q3052 : (Jvm.Cond.codeWith ({ cls := "GraftTreesModel", name := "defines", desc := "(IIJ)V" } : Jvm.MethodName) prog_11_method_124_code (7 : Nat) (Option.none : Option Jvm.ClassFile.FieldType) [((58 : Nat), (62 : Nat), (65 : Nat), (7 : Nat))]) ∈ lw_all := lw_g (lw_at lw_m12 186 rfl) rfl
theorem q3053 : (Jvm.Cond.methodLink "GraftTreesModel" (819 : Nat) ({ cls := "GraftTreesModel", name := "choice", desc := "(I)Z" } : Jvm.MethodName)) ∈ lw_all := lw_g (lw_at lw_m12 187 rfl) rfl
theorem q3054 : (Jvm.Cond.privateMethod ({ cls := "GraftTreesModel", name := "choice", desc := "(I)Z" } : Jvm.MethodName)) ∈ lw_tbl := lw_at lw_m12 188 rfl
theorem q3055 : (Jvm.Cond.instanceMethod ({ cls := "GraftTreesModel", name := "choice", desc := "(I)Z" } : Jvm.MethodName)) ∈ lw_all := lw_g (lw_at lw_m12 189 rfl) rfl
theorem q3056 : (Jvm.Cond.code ({ cls := "GraftTreesModel", name := "choice", desc := "(I)Z" } : Jvm.MethodName) prog_11_method_106_code (4 : Nat) (Option.some Jvm.ClassFile.FieldType.boolean)) ∈ lw_all := lw_g (lw_at lw_m12 190 rfl) rfl
theorem q3057 : (Jvm.Cond.methodLink "GraftTreesModel" (822 : Nat) ({ cls := "GraftTreesModel", name := "repeats", desc := "(II)V" } : Jvm.MethodName)) ∈ lw_all := lw_g (lw_at lw_m12 191 rfl) rfl
theorem q3058 : (Jvm.Cond.privateMethod ({ cls := "GraftTreesModel", name := "repeats", desc := "(II)V" } : Jvm.MethodName)) ∈ lw_tbl := lw_at lw_m12 192 rfl
theorem q3059 : (Jvm.Cond.instanceMethod ({ cls := "GraftTreesModel", name := "repeats", desc := "(II)V" } : Jvm.MethodName)) ∈ lw_all := lw_g (lw_at lw_m12 193 rfl) rfl
theorem q3060 : (Jvm.Cond.code ({ cls := "GraftTreesModel", name := "repeats", desc := "(II)V" } : Jvm.MethodName) prog_11_method_107_code (4 : Nat) (Option.none : Option Jvm.ClassFile.FieldType)) ∈ lw_all := lw_g (lw_at lw_m12 194 rfl) rfl
theorem q3062 : (Jvm.Cond.instanceMethod ({ cls := "GraftTreesModel", name := "run", desc := "(I)I" } : Jvm.MethodName)) ∈ lw_all := lw_g (lw_at lw_m12 196 rfl) rfl
theorem q3063 : (Jvm.Cond.selects "GraftTreesModel" ({ cls := "GraftTreesModel", name := "run", desc := "(I)I" } : Jvm.MethodName) ({ cls := "GraftTreesModel", name := "run", desc := "(I)I" } : Jvm.MethodName)) ∈ lw_all := lw_g (lw_at lw_m12 197 rfl) rfl
theorem q3064 : (Jvm.Cond.code ({ cls := "GraftTreesModel", name := "run", desc := "(I)I" } : Jvm.MethodName) prog_11_method_131_code (2 : Nat) (Option.some Jvm.ClassFile.FieldType.int)) ∈ lw_all := lw_g (lw_at lw_m12 198 rfl) rfl
theorem q3066 : (Jvm.Cond.instanceMethod ({ cls := "GraftTreesModel", name := "state", desc := "()I" } : Jvm.MethodName)) ∈ lw_all := lw_g (lw_at lw_m12 200 rfl) rfl
theorem q3067 : (Jvm.Cond.selects "GraftTreesModel" ({ cls := "GraftTreesModel", name := "state", desc := "()I" } : Jvm.MethodName) ({ cls := "GraftTreesModel", name := "state", desc := "()I" } : Jvm.MethodName)) ∈ lw_all := lw_g (lw_at lw_m12 201 rfl) rfl
theorem q3068 : (Jvm.Cond.code ({ cls := "GraftTreesModel", name := "state", desc := "()I" } : Jvm.MethodName) prog_11_method_132_code (1 : Nat) (Option.some Jvm.ClassFile.FieldType.int)) ∈ lw_all := lw_g (lw_at lw_m12 202 rfl) rfl
theorem q3070 : (Jvm.Cond.instanceMethod ({ cls := "GraftTreesModel", name := "error", desc := "(I)I" } : Jvm.MethodName)) ∈ lw_all := lw_g (lw_at lw_m12 204 rfl) rfl
theorem q3071 : (Jvm.Cond.selects "GraftTreesModel" ({ cls := "GraftTreesModel", name := "error", desc := "(I)I" } : Jvm.MethodName) ({ cls := "GraftTreesModel", name := "error", desc := "(I)I" } : Jvm.MethodName)) ∈ lw_all := lw_g (lw_at lw_m12 205 rfl) rfl
theorem q3072 : (Jvm.Cond.code ({ cls := "GraftTreesModel", name := "error", desc := "(I)I" } : Jvm.MethodName) prog_11_method_133_code (2 : Nat) (Option.some Jvm.ClassFile.FieldType.int)) ∈ lw_all := lw_g (lw_at lw_m12 206 rfl) rfl
theorem q3074 : (Jvm.Cond.instanceMethod ({ cls := "GraftTreesModel", name := "result", desc := "(I)I" } : Jvm.MethodName)) ∈ lw_all := lw_g (lw_at lw_m12 208 rfl) rfl
theorem q3075 : (Jvm.Cond.selects "GraftTreesModel" ({ cls := "GraftTreesModel", name := "result", desc := "(I)I" } : Jvm.MethodName) ({ cls := "GraftTreesModel", name := "result", desc := "(I)I" } : Jvm.MethodName)) ∈ lw_all := lw_g (lw_at lw_m12 209 rfl) rfl
theorem q3076 : (Jvm.Cond.code ({ cls := "GraftTreesModel", name := "result", desc := "(I)I" } : Jvm.MethodName) prog_11_method_134_code (2 : Nat) (Option.some Jvm.ClassFile.FieldType.int)) ∈ lw_all := lw_g (lw_at lw_m12 210 rfl) rfl
theorem q3078 : (Jvm.Cond.instanceMethod ({ cls := "GraftTreesModel", name := "out", desc := "(I)I" } : Jvm.MethodName)) ∈ lw_all := lw_g (lw_at lw_m12 212 rfl) rfl
theorem q3079 : (Jvm.Cond.selects "GraftTreesModel" ({ cls := "GraftTreesModel", name := "out", desc := "(I)I" } : Jvm.MethodName) ({ cls := "GraftTreesModel", name := "out", desc := "(I)I" } : Jvm.MethodName)) ∈ lw_all := lw_g (lw_at lw_m12 213 rfl) rfl
theorem q3080 : (Jvm.Cond.code ({ cls := "GraftTreesModel", name := "out", desc := "(I)I" } : Jvm.MethodName) prog_11_method_135_code (2 : Nat) (Option.some Jvm.ClassFile.FieldType.int)) ∈ lw_all := lw_g (lw_at lw_m12 214 rfl) rfl
theorem q3082 : (Jvm.Cond.instanceMethod ({ cls := "GraftTreesModel", name := "root", desc := "(II)I" } : Jvm.MethodName)) ∈ lw_all := lw_g (lw_at lw_m12 216 rfl) rfl
theorem q3083 : (Jvm.Cond.selects "GraftTreesModel" ({ cls := "GraftTreesModel", name := "root", desc := "(II)I" } : Jvm.MethodName) ({ cls := "GraftTreesModel", name := "root", desc := "(II)I" } : Jvm.MethodName)) ∈ lw_all := lw_g (lw_at lw_m12 217 rfl) rfl
theorem q3084 : (Jvm.Cond.code ({ cls := "GraftTreesModel", name := "root", desc := "(II)I" } : Jvm.MethodName) prog_11_method_136_code (4 : Nat) (Option.some Jvm.ClassFile.FieldType.int)) ∈ lw_all := lw_g (lw_at lw_m12 218 rfl) rfl
theorem q3086 : (Jvm.Cond.instanceMethod ({ cls := "GraftTreesModel", name := "node", desc := "(III)I" } : Jvm.MethodName)) ∈ lw_all := lw_g (lw_at lw_m12 220 rfl) rfl
theorem q3087 : (Jvm.Cond.selects "GraftTreesModel" ({ cls := "GraftTreesModel", name := "node", desc := "(III)I" } : Jvm.MethodName) ({ cls := "GraftTreesModel", name := "node", desc := "(III)I" } : Jvm.MethodName)) ∈ lw_all := lw_g (lw_at lw_m12 221 rfl) rfl
theorem q3088 : (Jvm.Cond.code ({ cls := "GraftTreesModel", name := "node", desc := "(III)I" } : Jvm.MethodName) prog_11_method_137_code (6 : Nat) (Option.some Jvm.ClassFile.FieldType.int)) ∈ lw_all := lw_g (lw_at lw_m12 222 rfl) rfl
theorem q3090 : (Jvm.Cond.instanceMethod ({ cls := "GraftTreesModel", name := "shape", desc := "(II)I" } : Jvm.MethodName)) ∈ lw_all := lw_g (lw_at lw_m12 224 rfl) rfl
theorem q3091 : (Jvm.Cond.selects "GraftTreesModel" ({ cls := "GraftTreesModel", name := "shape", desc := "(II)I" } : Jvm.MethodName) ({ cls := "GraftTreesModel", name := "shape", desc := "(II)I" } : Jvm.MethodName)) ∈ lw_all := lw_g (lw_at lw_m12 225 rfl) rfl
theorem q3092 : (Jvm.Cond.code ({ cls := "GraftTreesModel", name := "shape", desc := "(II)I" } : Jvm.MethodName) prog_11_method_138_code (3 : Nat) (Option.some Jvm.ClassFile.FieldType.int)) ∈ lw_all := lw_g (lw_at lw_m12 226 rfl) rfl
theorem q3094 : (Jvm.Cond.instanceMethod ({ cls := "GraftTreesModel", name := "code", desc := "(II)I" } : Jvm.MethodName)) ∈ lw_all := lw_g (lw_at lw_m12 228 rfl) rfl
theorem q3095 : (Jvm.Cond.selects "GraftTreesModel" ({ cls := "GraftTreesModel", name := "code", desc := "(II)I" } : Jvm.MethodName) ({ cls := "GraftTreesModel", name := "code", desc := "(II)I" } : Jvm.MethodName)) ∈ lw_all := lw_g (lw_at lw_m12 229 rfl) rfl
theorem q3096 : (Jvm.Cond.code ({ cls := "GraftTreesModel", name := "code", desc := "(II)I" } : Jvm.MethodName) prog_11_method_139_code (3 : Nat) (Option.some Jvm.ClassFile.FieldType.int)) ∈ lw_all := lw_g (lw_at lw_m12 230 rfl) rfl
theorem q3098 : (Jvm.Cond.instanceMethod ({ cls := "GraftTreesModel", name := "frame", desc := "(II)I" } : Jvm.MethodName)) ∈ lw_all := lw_g (lw_at lw_m12 232 rfl) rfl
theorem q3099 : (Jvm.Cond.selects "GraftTreesModel" ({ cls := "GraftTreesModel", name := "frame", desc := "(II)I" } : Jvm.MethodName) ({ cls := "GraftTreesModel", name := "frame", desc := "(II)I" } : Jvm.MethodName)) ∈ lw_all := lw_g (lw_at lw_m12 233 rfl) rfl
theorem q3100 : (Jvm.Cond.code ({ cls := "GraftTreesModel", name := "frame", desc := "(II)I" } : Jvm.MethodName) prog_11_method_140_code (4 : Nat) (Option.some Jvm.ClassFile.FieldType.int)) ∈ lw_all := lw_g (lw_at lw_m12 234 rfl) rfl
theorem q3102 : (Jvm.Cond.instanceMethod ({ cls := "GraftTreesModel", name := "total", desc := "(I)I" } : Jvm.MethodName)) ∈ lw_all := lw_g (lw_at lw_m12 236 rfl) rfl
theorem q3103 : (Jvm.Cond.selects "GraftTreesModel" ({ cls := "GraftTreesModel", name := "total", desc := "(I)I" } : Jvm.MethodName) ({ cls := "GraftTreesModel", name := "total", desc := "(I)I" } : Jvm.MethodName)) ∈ lw_all := lw_g (lw_at lw_m12 237 rfl) rfl
theorem q3104 : (Jvm.Cond.code ({ cls := "GraftTreesModel", name := "total", desc := "(I)I" } : Jvm.MethodName) prog_11_method_141_code (2 : Nat) (Option.some Jvm.ClassFile.FieldType.int)) ∈ lw_all := lw_g (lw_at lw_m12 238 rfl) rfl
theorem in_X10 : ∀ w ∈ wsX100, w ∈ lw_all := lw_in wsX100 [2268, 2270, 2272, 2274, 2276, 2278, 2280, 2282, 2284, 2286, 2288, 2290, 2292, 2294, 2296, 2298, 2300, 2302, 2304, 2306, 2308, 2310, 2312, 2314, 2316, 2318, 2320, 2322, 2324, 2326, 2328, 2330, 2332, 2334, 2336, 2338, 2340, 2342, 2344, 2346, 2348, 2350, 2352, 2354, 2356, 2358, 2360, 2362, 2364, 2366, 2368, 2370, 2372, 2374, 2376, 2378, 2380, 2382, 2384, 2386, 2388, 2390, 2392, 2394, 2396, 2398, 2400, 2402, 2404, 2406, 2408, 2410, 2412, 2414, 2416, 2418, 2420, 2422, 2424, 2426, 2428, 2430, 2432, 2434, 2436, 2438, 2440, 2442, 2444, 2446, 2448, 2450, 2452, 2454, 2456, 2458, 2460, 2462, 2464, 2466, 2468, 2470, 2472, 2474, 2476, 2478, 2480, 2482, 2484, 2486, 2488, 2490, 2492, 2494, 2496, 2498, 2500, 2502, 2504, 2506, 2508, 2510, 2512, 2514, 2516, 2518, 2520, 2522, 2524, 2526, 2528, 2530, 2532, 2534, 2536, 2538, 2540, 2542, 2544, 2546, 2548, 2550, 2552, 2554, 2556, 2558, 2560, 2562, 2564, 2566, 2568, 2570, 2572, 2574, 2576, 2578] (by decide +kernel) (by decide +kernel)
/-! GraftTreesModel$Stop -/
def RX11 : String := "GraftTreesModel$Stop"
def TX11 : u_T := fun k => match k with
  | 0 => ("java/lang/Throwable", "cause", "Ljava/lang/Throwable;", false)
  | 1 => ("java/lang/Throwable", "stackTrace", "[Ljava/lang/StackTraceElement;", false)
  | 2 => ("java/lang/Throwable", "suppressedExceptions", "Ljava/util/List;", false)
  | 3 => ("java/lang/Throwable", "detailMessage", "Ljava/lang/String;", false)
  | 4 => ("java/lang/Throwable", "backtrace", "Ljava/lang/Object;", false)
  | _ => ("java/lang/Throwable", "depth", "I", false)
def tyX11 : Nat → FieldType := fun k => match k with
  | 0 => .object "java/lang/Throwable"
  | 1 => .array (.object "java/lang/StackTraceElement")
  | 2 => .object "java/util/List"
  | 3 => .object "java/lang/String"
  | 4 => .object "java/lang/Object"
  | _ => .int
abbrev wsX110 : List Cond := u_ws RX11 TX11 6
theorem nmX11 : ∀ a, a < 6 → ∀ b, b < 6 → a ≠ b → (TX11 a).2.1 ≠ (TX11 b).2.1 := by decide +kernel
theorem tyX11_ok : ∀ k, k < 6 → parseFieldDescriptor (TX11 k).2.2.1 = some (tyX11 k) := by decide +kernel
abbrev cX11_init : ByteArray := prog_12_method_1_code
def yX11_init : MethodName := ⟨RX11, "<init>", "()V"⟩
theorem q246 : (Jvm.Cond.initialized "GraftTreesModel$Stop") ∈ lw_all := lw_g (lw_at lw_m1 20 rfl) rfl
theorem q1994 : (Jvm.Cond.instantiable "GraftTreesModel$Stop" (6 : Nat)) ∈ lw_all := lw_g (lw_at lw_m8 88 rfl) rfl
theorem q1995 : (Jvm.Cond.castable "GraftTreesModel$Stop" "GraftTreesModel$Stop") ∈ lw_tbl := lw_at lw_m8 89 rfl
theorem q2002 : (Jvm.Cond.selects "GraftTreesModel$Stop" ({ cls := "java/lang/Throwable", name := "fillInStackTrace", desc := "(I)Ljava/lang/Throwable;" } : Jvm.MethodName) ({ cls := "java/lang/Throwable", name := "fillInStackTrace", desc := "(I)Ljava/lang/Throwable;" } : Jvm.MethodName)) ∈ lw_all := lw_g (lw_at lw_m8 96 rfl) rfl
theorem q2003 : (Jvm.Cond.selects "GraftTreesModel$Stop" ({ cls := "java/lang/Throwable", name := "fillInStackTrace", desc := "()Ljava/lang/Throwable;" } : Jvm.MethodName) ({ cls := "java/lang/Throwable", name := "fillInStackTrace", desc := "()Ljava/lang/Throwable;" } : Jvm.MethodName)) ∈ lw_all := lw_g (lw_at lw_m8 97 rfl) rfl
theorem q2004 : (Jvm.Cond.lays "GraftTreesModel$Stop" "java/lang/Throwable" "cause" "Ljava/lang/Throwable;") ∈ lw_all := lw_g (lw_at lw_m8 98 rfl) rfl
theorem q2006 : (Jvm.Cond.lays "GraftTreesModel$Stop" "java/lang/Throwable" "stackTrace" "[Ljava/lang/StackTraceElement;") ∈ lw_all := lw_g (lw_at lw_m8 100 rfl) rfl
theorem q2008 : (Jvm.Cond.lays "GraftTreesModel$Stop" "java/lang/Throwable" "suppressedExceptions" "Ljava/util/List;") ∈ lw_all := lw_g (lw_at lw_m8 102 rfl) rfl
theorem q2010 : (Jvm.Cond.lays "GraftTreesModel$Stop" "java/lang/Throwable" "detailMessage" "Ljava/lang/String;") ∈ lw_all := lw_g (lw_at lw_m8 104 rfl) rfl
theorem q2012 : (Jvm.Cond.lays "GraftTreesModel$Stop" "java/lang/Throwable" "backtrace" "Ljava/lang/Object;") ∈ lw_all := lw_g (lw_at lw_m8 106 rfl) rfl
theorem q2033 : (Jvm.Cond.instanceMethod ({ cls := "GraftTreesModel$Stop", name := "<init>", desc := "()V" } : Jvm.MethodName)) ∈ lw_all := lw_g (lw_at lw_m8 127 rfl) rfl
theorem q2034 : (Jvm.Cond.code ({ cls := "GraftTreesModel$Stop", name := "<init>", desc := "()V" } : Jvm.MethodName) prog_12_method_1_code (1 : Nat) (Option.none : Option Jvm.ClassFile.FieldType)) ∈ lw_all := lw_g (lw_at lw_m8 128 rfl) rfl
theorem q2035 : (Jvm.Cond.methodLink "GraftTreesModel$Stop" (1 : Nat) ({ cls := "java/lang/RuntimeException", name := "<init>", desc := "()V" } : Jvm.MethodName)) ∈ lw_all := lw_g (lw_at lw_m8 129 rfl) rfl
theorem q2050 : (Jvm.Cond.lays "GraftTreesModel$Stop" "java/lang/Throwable" "depth" "I") ∈ lw_all := lw_g (lw_at lw_m8 144 rfl) rfl
theorem q2053 : (Jvm.Cond.superclass "GraftTreesModel$Stop" "java/lang/RuntimeException") ∈ lw_all := lw_g (lw_at lw_m8 147 rfl) rfl
theorem in_X11 : ∀ w ∈ wsX110, w ∈ lw_all := lw_in wsX110 [2004, 2006, 2008, 2010, 2012, 2050] (by decide +kernel) (by decide +kernel)
/-! GraftTreesLaw -/
def RX0 : String := "GraftTreesLaw"
abbrev cX0_cell : ByteArray := method_2_code
def yX0_cell : MethodName := ⟨RX0, "cell", "([II)I"⟩
theorem q226 : (Jvm.Cond.initialized "GraftTreesLaw") ∈ lw_all := lw_g (lw_at lw_m1 0 rfl) rfl
theorem q249 : (Jvm.Cond.classLink "GraftTreesLaw" (7 : Nat) "GraftTrees") ∈ lw_all := lw_g (lw_at lw_m1 23 rfl) rfl
theorem q251 : (Jvm.Cond.methodLink "GraftTreesLaw" (15 : Nat) ({ cls := "GraftTrees", name := "<init>", desc := "(I)V" } : Jvm.MethodName)) ∈ lw_all := lw_g (lw_at lw_m1 25 rfl) rfl
theorem q1156 : (Jvm.Cond.methodLink "GraftTreesLaw" (21 : Nat) ({ cls := "GraftTrees", name := "feed", desc := "(IIIII)I" } : Jvm.MethodName)) ∈ lw_all := lw_g (lw_at lw_m4 210 rfl) rfl
theorem q1164 : (Jvm.Cond.methodLink "GraftTreesLaw" (26 : Nat) ({ cls := "GraftTrees", name := "load", desc := "(I)I" } : Jvm.MethodName)) ∈ lw_all := lw_g (lw_at lw_m4 218 rfl) rfl
theorem q1536 : (Jvm.Cond.methodLink "GraftTreesLaw" (31 : Nat) ({ cls := "GraftTrees", name := "fault", desc := "(I)I" } : Jvm.MethodName)) ∈ lw_all := lw_g (lw_at lw_m6 110 rfl) rfl
theorem q1540 : (Jvm.Cond.methodLink "GraftTreesLaw" (37 : Nat) ({ cls := "GraftTrees", name := "start", desc := "(JJ)Z" } : Jvm.MethodName)) ∈ lw_all := lw_g (lw_at lw_m6 114 rfl) rfl
theorem q1899 : (Jvm.Cond.methodLink "GraftTreesLaw" (42 : Nat) ({ cls := "GraftTrees", name := "run", desc := "(I)I" } : Jvm.MethodName)) ∈ lw_all := lw_g (lw_at lw_m7 233 rfl) rfl
theorem q1904 : (Jvm.Cond.methodLink "GraftTreesLaw" (46 : Nat) ({ cls := "GraftTrees", name := "state", desc := "()I" } : Jvm.MethodName)) ∈ lw_all := lw_g (lw_at lw_m7 238 rfl) rfl
theorem q1908 : (Jvm.Cond.methodLink "GraftTreesLaw" (51 : Nat) ({ cls := "GraftTrees", name := "error", desc := "(I)I" } : Jvm.MethodName)) ∈ lw_all := lw_g (lw_at lw_m8 2 rfl) rfl
theorem q1912 : (Jvm.Cond.methodLink "GraftTreesLaw" (55 : Nat) ({ cls := "GraftTrees", name := "result", desc := "(I)I" } : Jvm.MethodName)) ∈ lw_all := lw_g (lw_at lw_m8 6 rfl) rfl
theorem q1916 : (Jvm.Cond.methodLink "GraftTreesLaw" (59 : Nat) ({ cls := "GraftTrees", name := "out", desc := "(I)I" } : Jvm.MethodName)) ∈ lw_all := lw_g (lw_at lw_m8 10 rfl) rfl
theorem q1920 : (Jvm.Cond.methodLink "GraftTreesLaw" (63 : Nat) ({ cls := "GraftTrees", name := "compile", desc := "()I" } : Jvm.MethodName)) ∈ lw_all := lw_g (lw_at lw_m8 14 rfl) rfl
theorem q1954 : (Jvm.Cond.methodLink "GraftTreesLaw" (67 : Nat) ({ cls := "GraftTrees", name := "root", desc := "(II)I" } : Jvm.MethodName)) ∈ lw_all := lw_g (lw_at lw_m8 48 rfl) rfl
theorem q1964 : (Jvm.Cond.methodLink "GraftTreesLaw" (72 : Nat) ({ cls := "GraftTrees", name := "node", desc := "(III)I" } : Jvm.MethodName)) ∈ lw_all := lw_g (lw_at lw_m8 58 rfl) rfl
theorem q1968 : (Jvm.Cond.methodLink "GraftTreesLaw" (77 : Nat) ({ cls := "GraftTrees", name := "shape", desc := "(II)I" } : Jvm.MethodName)) ∈ lw_all := lw_g (lw_at lw_m8 62 rfl) rfl
theorem q1972 : (Jvm.Cond.methodLink "GraftTreesLaw" (81 : Nat) ({ cls := "GraftTrees", name := "code", desc := "(II)I" } : Jvm.MethodName)) ∈ lw_all := lw_g (lw_at lw_m8 66 rfl) rfl
theorem q1976 : (Jvm.Cond.methodLink "GraftTreesLaw" (85 : Nat) ({ cls := "GraftTrees", name := "frame", desc := "(II)I" } : Jvm.MethodName)) ∈ lw_all := lw_g (lw_at lw_m8 70 rfl) rfl
theorem q1980 : (Jvm.Cond.methodLink "GraftTreesLaw" (89 : Nat) ({ cls := "GraftTrees", name := "total", desc := "(I)I" } : Jvm.MethodName)) ∈ lw_all := lw_g (lw_at lw_m8 74 rfl) rfl
theorem q1984 : (Jvm.Cond.methodLink "GraftTreesLaw" (9 : Nat) ({ cls := "GraftTreesLaw", name := "cell", desc := "([II)I" } : Jvm.MethodName)) ∈ lw_all := lw_g (lw_at lw_m8 78 rfl) rfl
theorem q1985 : (Jvm.Cond.static ({ cls := "GraftTreesLaw", name := "cell", desc := "([II)I" } : Jvm.MethodName)) ∈ lw_all := lw_g (lw_at lw_m8 79 rfl) rfl
theorem q1986 : (Jvm.Cond.code ({ cls := "GraftTreesLaw", name := "cell", desc := "([II)I" } : Jvm.MethodName) method_2_code (2 : Nat) (Option.some Jvm.ClassFile.FieldType.int)) ∈ lw_all := lw_g (lw_at lw_m8 80 rfl) rfl
theorem q1987 : (Jvm.Cond.classLink "GraftTreesLaw" (18 : Nat) "GraftTreesModel") ∈ lw_all := lw_g (lw_at lw_m8 81 rfl) rfl
theorem q1989 : (Jvm.Cond.methodLink "GraftTreesLaw" (20 : Nat) ({ cls := "GraftTreesModel", name := "<init>", desc := "(I)V" } : Jvm.MethodName)) ∈ lw_all := lw_g (lw_at lw_m8 83 rfl) rfl
theorem q2581 : (Jvm.Cond.methodLink "GraftTreesLaw" (66 : Nat) ({ cls := "GraftTreesModel", name := "compile", desc := "()I" } : Jvm.MethodName)) ∈ lw_all := lw_g (lw_at lw_m10 195 rfl) rfl
theorem q2610 : (Jvm.Cond.methodLink "GraftTreesLaw" (25 : Nat) ({ cls := "GraftTreesModel", name := "feed", desc := "(IIIII)I" } : Jvm.MethodName)) ∈ lw_all := lw_g (lw_at lw_m10 224 rfl) rfl
theorem q2614 : (Jvm.Cond.methodLink "GraftTreesLaw" (30 : Nat) ({ cls := "GraftTreesModel", name := "load", desc := "(I)I" } : Jvm.MethodName)) ∈ lw_all := lw_g (lw_at lw_m10 228 rfl) rfl
theorem q2786 : (Jvm.Cond.methodLink "GraftTreesLaw" (34 : Nat) ({ cls := "GraftTreesModel", name := "fault", desc := "(I)I" } : Jvm.MethodName)) ∈ lw_all := lw_g (lw_at lw_m11 160 rfl) rfl
theorem q2790 : (Jvm.Cond.methodLink "GraftTreesLaw" (41 : Nat) ({ cls := "GraftTreesModel", name := "start", desc := "(JJ)Z" } : Jvm.MethodName)) ∈ lw_all := lw_g (lw_at lw_m11 164 rfl) rfl
theorem q3061 : (Jvm.Cond.methodLink "GraftTreesLaw" (45 : Nat) ({ cls := "GraftTreesModel", name := "run", desc := "(I)I" } : Jvm.MethodName)) ∈ lw_all := lw_g (lw_at lw_m12 195 rfl) rfl
theorem q3065 : (Jvm.Cond.methodLink "GraftTreesLaw" (50 : Nat) ({ cls := "GraftTreesModel", name := "state", desc := "()I" } : Jvm.MethodName)) ∈ lw_all := lw_g (lw_at lw_m12 199 rfl) rfl
theorem q3069 : (Jvm.Cond.methodLink "GraftTreesLaw" (54 : Nat) ({ cls := "GraftTreesModel", name := "error", desc := "(I)I" } : Jvm.MethodName)) ∈ lw_all := lw_g (lw_at lw_m12 203 rfl) rfl
theorem q3073 : (Jvm.Cond.methodLink "GraftTreesLaw" (58 : Nat) ({ cls := "GraftTreesModel", name := "result", desc := "(I)I" } : Jvm.MethodName)) ∈ lw_all := lw_g (lw_at lw_m12 207 rfl) rfl
theorem q3077 : (Jvm.Cond.methodLink "GraftTreesLaw" (62 : Nat) ({ cls := "GraftTreesModel", name := "out", desc := "(I)I" } : Jvm.MethodName)) ∈ lw_all := lw_g (lw_at lw_m12 211 rfl) rfl
theorem q3081 : (Jvm.Cond.methodLink "GraftTreesLaw" (71 : Nat) ({ cls := "GraftTreesModel", name := "root", desc := "(II)I" } : Jvm.MethodName)) ∈ lw_all := lw_g (lw_at lw_m12 215 rfl) rfl
theorem q3085 : (Jvm.Cond.methodLink "GraftTreesLaw" (76 : Nat) ({ cls := "GraftTreesModel", name := "node", desc := "(III)I" } : Jvm.MethodName)) ∈ lw_all := lw_g (lw_at lw_m12 219 rfl) rfl
theorem q3089 : (Jvm.Cond.methodLink "GraftTreesLaw" (80 : Nat) ({ cls := "GraftTreesModel", name := "shape", desc := "(II)I" } : Jvm.MethodName)) ∈ lw_all := lw_g (lw_at lw_m12 223 rfl) rfl
theorem q3093 : (Jvm.Cond.methodLink "GraftTreesLaw" (84 : Nat) ({ cls := "GraftTreesModel", name := "code", desc := "(II)I" } : Jvm.MethodName)) ∈ lw_all := lw_g (lw_at lw_m12 227 rfl) rfl
theorem q3097 : (Jvm.Cond.methodLink "GraftTreesLaw" (88 : Nat) ({ cls := "GraftTreesModel", name := "frame", desc := "(II)I" } : Jvm.MethodName)) ∈ lw_all := lw_g (lw_at lw_m12 231 rfl) rfl
theorem q3101 : (Jvm.Cond.methodLink "GraftTreesLaw" (92 : Nat) ({ cls := "GraftTreesModel", name := "total", desc := "(I)I" } : Jvm.MethodName)) ∈ lw_all := lw_g (lw_at lw_m12 235 rfl) rfl
theorem q3105 : (Jvm.Cond.constantLong "GraftTreesLaw" (35 : Nat) (4294967295 : Int64)) ∈ lw_all := lw_g (lw_at lw_m12 239 rfl) rfl
/-! java/lang/String -/
def RJ0 : String := "java/lang/String"
abbrev cJ0_length : ByteArray := prog_18_method_54_code
def yJ0_length : MethodName := ⟨RJ0, "length", "()I"⟩
abbrev cJ0_coder : ByteArray := prog_18_method_152_code
def yJ0_coder : MethodName := ⟨RJ0, "coder", "()B"⟩
abbrev cJ0_charAt : ByteArray := prog_18_method_56_code
def yJ0_charAt : MethodName := ⟨RJ0, "charAt", "(I)C"⟩
abbrev cJ0_isLatin1 : ByteArray := prog_18_method_154_code
def yJ0_isLatin1 : MethodName := ⟨RJ0, "isLatin1", "()Z"⟩
abbrev cJ0_checkIndex : ByteArray := prog_18_method_155_code
def yJ0_checkIndex : MethodName := ⟨RJ0, "checkIndex", "(II)V"⟩
abbrev cJ0_indexOf : ByteArray := prog_18_method_80_code
def yJ0_indexOf : MethodName := ⟨RJ0, "indexOf", "(II)I"⟩
abbrev cJ0_checkBoundsBeginEnd : ByteArray := prog_18_method_158_code
def yJ0_checkBoundsBeginEnd : MethodName := ⟨RJ0, "checkBoundsBeginEnd", "(III)V"⟩
abbrev cJ0_indexOf_2 : ByteArray := prog_18_method_79_code
def yJ0_indexOf_2 : MethodName := ⟨RJ0, "indexOf", "(I)I"⟩
abbrev cJ0_indexOf_3 : ByteArray := prog_18_method_84_code
def yJ0_indexOf_3 : MethodName := ⟨RJ0, "indexOf", "(Ljava/lang/String;)I"⟩
theorem q231 : (Jvm.Cond.initialized "java/lang/String") ∈ lw_all := lw_g (lw_at lw_m1 5 rfl) rfl
theorem q392 : (Jvm.Cond.instanceMethod ({ cls := "java/lang/String", name := "length", desc := "()I" } : Jvm.MethodName)) ∈ lw_all := lw_g (lw_at lw_m1 166 rfl) rfl
theorem q393 : (Jvm.Cond.selects "java/lang/String" ({ cls := "java/lang/String", name := "length", desc := "()I" } : Jvm.MethodName) ({ cls := "java/lang/String", name := "length", desc := "()I" } : Jvm.MethodName)) ∈ lw_all := lw_g (lw_at lw_m1 167 rfl) rfl
theorem q394 : (Jvm.Cond.code ({ cls := "java/lang/String", name := "length", desc := "()I" } : Jvm.MethodName) prog_18_method_54_code (1 : Nat) (Option.some Jvm.ClassFile.FieldType.int)) ∈ lw_all := lw_g (lw_at lw_m1 168 rfl) rfl
theorem q395 : (Jvm.Cond.methodLink "java/lang/String" (335 : Nat) ({ cls := "java/lang/String", name := "coder", desc := "()B" } : Jvm.MethodName)) ∈ lw_all := lw_g (lw_at lw_m1 169 rfl) rfl
theorem q396 : (Jvm.Cond.instanceMethod ({ cls := "java/lang/String", name := "coder", desc := "()B" } : Jvm.MethodName)) ∈ lw_all := lw_g (lw_at lw_m1 170 rfl) rfl
theorem q397 : (Jvm.Cond.selects "java/lang/String" ({ cls := "java/lang/String", name := "coder", desc := "()B" } : Jvm.MethodName) ({ cls := "java/lang/String", name := "coder", desc := "()B" } : Jvm.MethodName)) ∈ lw_all := lw_g (lw_at lw_m1 171 rfl) rfl
theorem q398 : (Jvm.Cond.code ({ cls := "java/lang/String", name := "coder", desc := "()B" } : Jvm.MethodName) prog_18_method_152_code (1 : Nat) (Option.some Jvm.ClassFile.FieldType.byte)) ∈ lw_all := lw_g (lw_at lw_m1 172 rfl) rfl
theorem q399 : (Jvm.Cond.fieldLink "java/lang/String" (38 : Nat) "java/lang/String" "COMPACT_STRINGS" "Z") ∈ lw_all := lw_g (lw_at lw_m1 173 rfl) rfl
theorem q400 : (Jvm.Cond.laysStatic "java/lang/String" "COMPACT_STRINGS" "Z") ∈ lw_tbl := lw_at lw_m1 174 rfl
theorem q402 : (Jvm.Cond.instanceMethod ({ cls := "java/lang/String", name := "charAt", desc := "(I)C" } : Jvm.MethodName)) ∈ lw_all := lw_g (lw_at lw_m1 176 rfl) rfl
theorem q403 : (Jvm.Cond.selects "java/lang/String" ({ cls := "java/lang/String", name := "charAt", desc := "(I)C" } : Jvm.MethodName) ({ cls := "java/lang/String", name := "charAt", desc := "(I)C" } : Jvm.MethodName)) ∈ lw_all := lw_g (lw_at lw_m1 177 rfl) rfl
theorem q404 : (Jvm.Cond.code ({ cls := "java/lang/String", name := "charAt", desc := "(I)C" } : Jvm.MethodName) prog_18_method_56_code (2 : Nat) (Option.some Jvm.ClassFile.FieldType.char)) ∈ lw_all := lw_g (lw_at lw_m1 178 rfl) rfl
theorem q405 : (Jvm.Cond.methodLink "java/lang/String" (492 : Nat) ({ cls := "java/lang/String", name := "isLatin1", desc := "()Z" } : Jvm.MethodName)) ∈ lw_all := lw_g (lw_at lw_m1 179 rfl) rfl
theorem q406 : (Jvm.Cond.instanceMethod ({ cls := "java/lang/String", name := "isLatin1", desc := "()Z" } : Jvm.MethodName)) ∈ lw_all := lw_g (lw_at lw_m1 180 rfl) rfl
theorem q407 : (Jvm.Cond.selects "java/lang/String" ({ cls := "java/lang/String", name := "isLatin1", desc := "()Z" } : Jvm.MethodName) ({ cls := "java/lang/String", name := "isLatin1", desc := "()Z" } : Jvm.MethodName)) ∈ lw_all := lw_g (lw_at lw_m1 181 rfl) rfl
theorem q408 : (Jvm.Cond.code ({ cls := "java/lang/String", name := "isLatin1", desc := "()Z" } : Jvm.MethodName) prog_18_method_154_code (1 : Nat) (Option.some Jvm.ClassFile.FieldType.boolean)) ∈ lw_all := lw_g (lw_at lw_m1 182 rfl) rfl
theorem q409 : (Jvm.Cond.methodLink "java/lang/String" (495 : Nat) ({ cls := "java/lang/StringLatin1", name := "charAt", desc := "([BI)C" } : Jvm.MethodName)) ∈ lw_all := lw_g (lw_at lw_m1 183 rfl) rfl
theorem q413 : (Jvm.Cond.static ({ cls := "java/lang/String", name := "checkIndex", desc := "(II)V" } : Jvm.MethodName)) ∈ lw_all := lw_g (lw_at lw_m1 187 rfl) rfl
theorem q414 : (Jvm.Cond.code ({ cls := "java/lang/String", name := "checkIndex", desc := "(II)V" } : Jvm.MethodName) prog_18_method_155_code (2 : Nat) (Option.none : Option Jvm.ClassFile.FieldType)) ∈ lw_all := lw_g (lw_at lw_m1 188 rfl) rfl
theorem q415 : (Jvm.Cond.fieldLink "java/lang/String" (1053 : Nat) "jdk/internal/util/Preconditions" "SIOOBE_FORMATTER" "Ljava/util/function/BiFunction;") ∈ lw_all := lw_g (lw_at lw_m1 189 rfl) rfl
theorem q417 : (Jvm.Cond.methodLink "java/lang/String" (1059 : Nat) ({ cls := "jdk/internal/util/Preconditions", name := "checkIndex", desc := "(IILjava/util/function/BiFunction;)I" } : Jvm.MethodName)) ∈ lw_all := lw_g (lw_at lw_m1 191 rfl) rfl
theorem q420 : (Jvm.Cond.methodLink "java/lang/String" (498 : Nat) ({ cls := "java/lang/StringUTF16", name := "charAt", desc := "([BI)C" } : Jvm.MethodName)) ∈ lw_all := lw_g (lw_at lw_m1 194 rfl) rfl
theorem q1205 : (Jvm.Cond.instanceMethod ({ cls := "java/lang/String", name := "indexOf", desc := "(II)I" } : Jvm.MethodName)) ∈ lw_all := lw_g (lw_at lw_m5 19 rfl) rfl
theorem q1206 : (Jvm.Cond.selects "java/lang/String" ({ cls := "java/lang/String", name := "indexOf", desc := "(II)I" } : Jvm.MethodName) ({ cls := "java/lang/String", name := "indexOf", desc := "(II)I" } : Jvm.MethodName)) ∈ lw_all := lw_g (lw_at lw_m5 20 rfl) rfl
theorem q1207 : (Jvm.Cond.code ({ cls := "java/lang/String", name := "indexOf", desc := "(II)I" } : Jvm.MethodName) prog_18_method_80_code (3 : Nat) (Option.some Jvm.ClassFile.FieldType.int)) ∈ lw_all := lw_g (lw_at lw_m5 21 rfl) rfl
theorem q1208 : (Jvm.Cond.methodLink "java/lang/String" (505 : Nat) ({ cls := "java/lang/String", name := "length", desc := "()I" } : Jvm.MethodName)) ∈ lw_all := lw_g (lw_at lw_m5 22 rfl) rfl
theorem q1209 : (Jvm.Cond.methodLink "java/lang/String" (637 : Nat) ({ cls := "java/lang/StringLatin1", name := "indexOf", desc := "([BIII)I" } : Jvm.MethodName)) ∈ lw_all := lw_g (lw_at lw_m5 23 rfl) rfl
theorem q1220 : (Jvm.Cond.methodLink "java/lang/String" (640 : Nat) ({ cls := "java/lang/StringUTF16", name := "indexOf", desc := "([BIII)I" } : Jvm.MethodName)) ∈ lw_all := lw_g (lw_at lw_m5 34 rfl) rfl
theorem q1233 : (Jvm.Cond.static ({ cls := "java/lang/String", name := "checkBoundsBeginEnd", desc := "(III)V" } : Jvm.MethodName)) ∈ lw_all := lw_g (lw_at lw_m5 47 rfl) rfl
theorem q1234 : (Jvm.Cond.code ({ cls := "java/lang/String", name := "checkBoundsBeginEnd", desc := "(III)V" } : Jvm.MethodName) prog_18_method_158_code (3 : Nat) (Option.none : Option Jvm.ClassFile.FieldType)) ∈ lw_all := lw_g (lw_at lw_m5 48 rfl) rfl
theorem q1235 : (Jvm.Cond.methodLink "java/lang/String" (1062 : Nat) ({ cls := "jdk/internal/util/Preconditions", name := "checkFromToIndex", desc := "(IIILjava/util/function/BiFunction;)I" } : Jvm.MethodName)) ∈ lw_all := lw_g (lw_at lw_m5 49 rfl) rfl
theorem q1270 : (Jvm.Cond.instanceMethod ({ cls := "java/lang/String", name := "indexOf", desc := "(I)I" } : Jvm.MethodName)) ∈ lw_all := lw_g (lw_at lw_m5 84 rfl) rfl
theorem q1271 : (Jvm.Cond.selects "java/lang/String" ({ cls := "java/lang/String", name := "indexOf", desc := "(I)I" } : Jvm.MethodName) ({ cls := "java/lang/String", name := "indexOf", desc := "(I)I" } : Jvm.MethodName)) ∈ lw_all := lw_g (lw_at lw_m5 85 rfl) rfl
theorem q1272 : (Jvm.Cond.code ({ cls := "java/lang/String", name := "indexOf", desc := "(I)I" } : Jvm.MethodName) prog_18_method_79_code (2 : Nat) (Option.some Jvm.ClassFile.FieldType.int)) ∈ lw_all := lw_g (lw_at lw_m5 86 rfl) rfl
theorem q1273 : (Jvm.Cond.methodLink "java/lang/String" (633 : Nat) ({ cls := "java/lang/String", name := "indexOf", desc := "(II)I" } : Jvm.MethodName)) ∈ lw_all := lw_g (lw_at lw_m5 87 rfl) rfl
theorem q1288 : (Jvm.Cond.instanceMethod ({ cls := "java/lang/String", name := "indexOf", desc := "(Ljava/lang/String;)I" } : Jvm.MethodName)) ∈ lw_all := lw_g (lw_at lw_m5 102 rfl) rfl
theorem q1289 : (Jvm.Cond.selects "java/lang/String" ({ cls := "java/lang/String", name := "indexOf", desc := "(Ljava/lang/String;)I" } : Jvm.MethodName) ({ cls := "java/lang/String", name := "indexOf", desc := "(Ljava/lang/String;)I" } : Jvm.MethodName)) ∈ lw_all := lw_g (lw_at lw_m5 103 rfl) rfl
theorem q1290 : (Jvm.Cond.code ({ cls := "java/lang/String", name := "indexOf", desc := "(Ljava/lang/String;)I" } : Jvm.MethodName) prog_18_method_84_code (3 : Nat) (Option.some Jvm.ClassFile.FieldType.int)) ∈ lw_all := lw_g (lw_at lw_m5 104 rfl) rfl
theorem q1291 : (Jvm.Cond.methodLink "java/lang/String" (647 : Nat) ({ cls := "java/lang/StringLatin1", name := "indexOf", desc := "([B[B)I" } : Jvm.MethodName)) ∈ lw_all := lw_g (lw_at lw_m5 105 rfl) rfl
theorem q1297 : (Jvm.Cond.methodLink "java/lang/String" (649 : Nat) ({ cls := "java/lang/StringUTF16", name := "indexOf", desc := "([B[B)I" } : Jvm.MethodName)) ∈ lw_all := lw_g (lw_at lw_m5 111 rfl) rfl
theorem q1303 : (Jvm.Cond.methodLink "java/lang/String" (650 : Nat) ({ cls := "java/lang/StringUTF16", name := "indexOfLatin1", desc := "([B[B)I" } : Jvm.MethodName)) ∈ lw_all := lw_g (lw_at lw_m5 117 rfl) rfl
theorem q3107 : (Jvm.Cond.fieldLink "java/lang/String" (9 : Nat) "java/lang/String" "value" "[B") ∈ lw_all := lw_g (lw_at lw_m13 1 rfl) rfl
theorem q3108 : (Jvm.Cond.fieldLink "java/lang/String" (15 : Nat) "java/lang/String" "coder" "B") ∈ lw_all := lw_g (lw_at lw_m13 2 rfl) rfl
/-! java/lang/StringLatin1 -/
def RJ1 : String := "java/lang/StringLatin1"
abbrev cJ1_charAt : ByteArray := prog_19_method_2_code
def yJ1_charAt : MethodName := ⟨RJ1, "charAt", "([BI)C"⟩
abbrev cJ1_indexOf : ByteArray := prog_19_method_22_code
def yJ1_indexOf : MethodName := ⟨RJ1, "indexOf", "([BIII)I"⟩
abbrev cJ1_canEncode : ByteArray := prog_19_method_4_code
def yJ1_canEncode : MethodName := ⟨RJ1, "canEncode", "(I)Z"⟩
abbrev cJ1_indexOfChar : ByteArray := prog_19_method_23_code
def yJ1_indexOfChar : MethodName := ⟨RJ1, "indexOfChar", "([BIII)I"⟩
abbrev cJ1_indexOf_2 : ByteArray := prog_19_method_24_code
def yJ1_indexOf_2 : MethodName := ⟨RJ1, "indexOf", "([B[B)I"⟩
abbrev cJ1_indexOf_3 : ByteArray := prog_19_method_25_code
def yJ1_indexOf_3 : MethodName := ⟨RJ1, "indexOf", "([BI[BII)I"⟩
theorem q232 : (Jvm.Cond.initialized "java/lang/StringLatin1") ∈ lw_all := lw_g (lw_at lw_m1 6 rfl) rfl
theorem q410 : (Jvm.Cond.static ({ cls := "java/lang/StringLatin1", name := "charAt", desc := "([BI)C" } : Jvm.MethodName)) ∈ lw_all := lw_g (lw_at lw_m1 184 rfl) rfl
theorem q411 : (Jvm.Cond.code ({ cls := "java/lang/StringLatin1", name := "charAt", desc := "([BI)C" } : Jvm.MethodName) prog_19_method_2_code (2 : Nat) (Option.some Jvm.ClassFile.FieldType.char)) ∈ lw_all := lw_g (lw_at lw_m1 185 rfl) rfl
theorem q412 : (Jvm.Cond.methodLink "java/lang/StringLatin1" (9 : Nat) ({ cls := "java/lang/String", name := "checkIndex", desc := "(II)V" } : Jvm.MethodName)) ∈ lw_all := lw_g (lw_at lw_m1 186 rfl) rfl
theorem q1210 : (Jvm.Cond.static ({ cls := "java/lang/StringLatin1", name := "indexOf", desc := "([BIII)I" } : Jvm.MethodName)) ∈ lw_all := lw_g (lw_at lw_m5 24 rfl) rfl
theorem q1211 : (Jvm.Cond.code ({ cls := "java/lang/StringLatin1", name := "indexOf", desc := "([BIII)I" } : Jvm.MethodName) prog_19_method_22_code (4 : Nat) (Option.some Jvm.ClassFile.FieldType.int)) ∈ lw_all := lw_g (lw_at lw_m5 25 rfl) rfl
theorem q1212 : (Jvm.Cond.methodLink "java/lang/StringLatin1" (88 : Nat) ({ cls := "java/lang/StringLatin1", name := "canEncode", desc := "(I)Z" } : Jvm.MethodName)) ∈ lw_all := lw_g (lw_at lw_m5 26 rfl) rfl
theorem q1213 : (Jvm.Cond.static ({ cls := "java/lang/StringLatin1", name := "canEncode", desc := "(I)Z" } : Jvm.MethodName)) ∈ lw_all := lw_g (lw_at lw_m5 27 rfl) rfl
theorem q1214 : (Jvm.Cond.code ({ cls := "java/lang/StringLatin1", name := "canEncode", desc := "(I)Z" } : Jvm.MethodName) prog_19_method_4_code (1 : Nat) (Option.some Jvm.ClassFile.FieldType.boolean)) ∈ lw_all := lw_g (lw_at lw_m5 28 rfl) rfl
theorem q1215 : (Jvm.Cond.methodLink "java/lang/StringLatin1" (92 : Nat) ({ cls := "java/lang/Math", name := "max", desc := "(II)I" } : Jvm.MethodName)) ∈ lw_all := lw_g (lw_at lw_m5 29 rfl) rfl
theorem q1216 : (Jvm.Cond.methodLink "java/lang/StringLatin1" (38 : Nat) ({ cls := "java/lang/Math", name := "min", desc := "(II)I" } : Jvm.MethodName)) ∈ lw_all := lw_g (lw_at lw_m5 30 rfl) rfl
theorem q1217 : (Jvm.Cond.methodLink "java/lang/StringLatin1" (95 : Nat) ({ cls := "java/lang/StringLatin1", name := "indexOfChar", desc := "([BIII)I" } : Jvm.MethodName)) ∈ lw_all := lw_g (lw_at lw_m5 31 rfl) rfl
theorem q1218 : (Jvm.Cond.static ({ cls := "java/lang/StringLatin1", name := "indexOfChar", desc := "([BIII)I" } : Jvm.MethodName)) ∈ lw_all := lw_g (lw_at lw_m5 32 rfl) rfl
theorem q1219 : (Jvm.Cond.code ({ cls := "java/lang/StringLatin1", name := "indexOfChar", desc := "([BIII)I" } : Jvm.MethodName) prog_19_method_23_code (6 : Nat) (Option.some Jvm.ClassFile.FieldType.int)) ∈ lw_all := lw_g (lw_at lw_m5 33 rfl) rfl
theorem q1292 : (Jvm.Cond.static ({ cls := "java/lang/StringLatin1", name := "indexOf", desc := "([B[B)I" } : Jvm.MethodName)) ∈ lw_all := lw_g (lw_at lw_m5 106 rfl) rfl
theorem q1293 : (Jvm.Cond.code ({ cls := "java/lang/StringLatin1", name := "indexOf", desc := "([B[B)I" } : Jvm.MethodName) prog_19_method_24_code (2 : Nat) (Option.some Jvm.ClassFile.FieldType.int)) ∈ lw_all := lw_g (lw_at lw_m5 107 rfl) rfl
theorem q1294 : (Jvm.Cond.methodLink "java/lang/StringLatin1" (99 : Nat) ({ cls := "java/lang/StringLatin1", name := "indexOf", desc := "([BI[BII)I" } : Jvm.MethodName)) ∈ lw_all := lw_g (lw_at lw_m5 108 rfl) rfl
theorem q1295 : (Jvm.Cond.static ({ cls := "java/lang/StringLatin1", name := "indexOf", desc := "([BI[BII)I" } : Jvm.MethodName)) ∈ lw_all := lw_g (lw_at lw_m5 109 rfl) rfl
theorem q1296 : (Jvm.Cond.code ({ cls := "java/lang/StringLatin1", name := "indexOf", desc := "([BI[BII)I" } : Jvm.MethodName) prog_19_method_25_code (11 : Nat) (Option.some Jvm.ClassFile.FieldType.int)) ∈ lw_all := lw_g (lw_at lw_m5 110 rfl) rfl
/-! jdk/internal/util/Preconditions -/
def RJ2 : String := "jdk/internal/util/Preconditions"
abbrev cJ2_checkIndex : ByteArray := prog_23_method_11_code
def yJ2_checkIndex : MethodName := ⟨RJ2, "checkIndex", "(IILjava/util/function/BiFunction;)I"⟩
abbrev cJ2_checkFromToIndex : ByteArray := prog_23_method_12_code
def yJ2_checkFromToIndex : MethodName := ⟨RJ2, "checkFromToIndex", "(IIILjava/util/function/BiFunction;)I"⟩
theorem q233 : (Jvm.Cond.initialized "jdk/internal/util/Preconditions") ∈ lw_all := lw_g (lw_at lw_m1 7 rfl) rfl
theorem q416 : (Jvm.Cond.laysStatic "jdk/internal/util/Preconditions" "SIOOBE_FORMATTER" "Ljava/util/function/BiFunction;") ∈ lw_tbl := lw_at lw_m1 190 rfl
theorem q418 : (Jvm.Cond.static ({ cls := "jdk/internal/util/Preconditions", name := "checkIndex", desc := "(IILjava/util/function/BiFunction;)I" } : Jvm.MethodName)) ∈ lw_all := lw_g (lw_at lw_m1 192 rfl) rfl
theorem q419 : (Jvm.Cond.code ({ cls := "jdk/internal/util/Preconditions", name := "checkIndex", desc := "(IILjava/util/function/BiFunction;)I" } : Jvm.MethodName) prog_23_method_11_code (3 : Nat) (Option.some Jvm.ClassFile.FieldType.int)) ∈ lw_all := lw_g (lw_at lw_m1 193 rfl) rfl
theorem q1236 : (Jvm.Cond.static ({ cls := "jdk/internal/util/Preconditions", name := "checkFromToIndex", desc := "(IIILjava/util/function/BiFunction;)I" } : Jvm.MethodName)) ∈ lw_all := lw_g (lw_at lw_m5 50 rfl) rfl
theorem q1237 : (Jvm.Cond.code ({ cls := "jdk/internal/util/Preconditions", name := "checkFromToIndex", desc := "(IIILjava/util/function/BiFunction;)I" } : Jvm.MethodName) prog_23_method_12_code (4 : Nat) (Option.some Jvm.ClassFile.FieldType.int)) ∈ lw_all := lw_g (lw_at lw_m5 51 rfl) rfl
/-! java/lang/StringUTF16 -/
def RJ3 : String := "java/lang/StringUTF16"
abbrev cJ3_charAt : ByteArray := prog_20_method_83_code
def yJ3_charAt : MethodName := ⟨RJ3, "charAt", "([BI)C"⟩
abbrev cJ3_checkIndex : ByteArray := prog_20_method_91_code
def yJ3_checkIndex : MethodName := ⟨RJ3, "checkIndex", "(I[B)V"⟩
abbrev cJ3_length : ByteArray := prog_20_method_6_code
def yJ3_length : MethodName := ⟨RJ3, "length", "([B)I"⟩
abbrev cJ3_getChar : ByteArray := prog_20_method_5_code
def yJ3_getChar : MethodName := ⟨RJ3, "getChar", "([BI)C"⟩
abbrev cJ3_indexOf : ByteArray := prog_20_method_40_code
def yJ3_indexOf : MethodName := ⟨RJ3, "indexOf", "([BIII)I"⟩
abbrev cJ3_indexOfChar : ByteArray := prog_20_method_47_code
def yJ3_indexOfChar : MethodName := ⟨RJ3, "indexOfChar", "([BIII)I"⟩
abbrev cJ3_checkBoundsBeginEnd : ByteArray := prog_20_method_93_code
def yJ3_checkBoundsBeginEnd : MethodName := ⟨RJ3, "checkBoundsBeginEnd", "(II[B)V"⟩
abbrev cJ3_indexOfCharUnsafe : ByteArray := prog_20_method_48_code
def yJ3_indexOfCharUnsafe : MethodName := ⟨RJ3, "indexOfCharUnsafe", "([BIII)I"⟩
abbrev cJ3_indexOfSupplementary : ByteArray := prog_20_method_49_code
def yJ3_indexOfSupplementary : MethodName := ⟨RJ3, "indexOfSupplementary", "([BIII)I"⟩
abbrev cJ3_indexOf_2 : ByteArray := prog_20_method_41_code
def yJ3_indexOf_2 : MethodName := ⟨RJ3, "indexOf", "([B[B)I"⟩
abbrev cJ3_indexOfUnsafe : ByteArray := prog_20_method_43_code
def yJ3_indexOfUnsafe : MethodName := ⟨RJ3, "indexOfUnsafe", "([BI[BII)I"⟩
abbrev cJ3_indexOfLatin1 : ByteArray := prog_20_method_44_code
def yJ3_indexOfLatin1 : MethodName := ⟨RJ3, "indexOfLatin1", "([B[B)I"⟩
abbrev cJ3_indexOfLatin1Unsafe : ByteArray := prog_20_method_46_code
def yJ3_indexOfLatin1Unsafe : MethodName := ⟨RJ3, "indexOfLatin1Unsafe", "([BI[BII)I"⟩
theorem q234 : (Jvm.Cond.initialized "java/lang/StringUTF16") ∈ lw_all := lw_g (lw_at lw_m1 8 rfl) rfl
theorem q421 : (Jvm.Cond.static ({ cls := "java/lang/StringUTF16", name := "charAt", desc := "([BI)C" } : Jvm.MethodName)) ∈ lw_all := lw_g (lw_at lw_m1 195 rfl) rfl
theorem q422 : (Jvm.Cond.code ({ cls := "java/lang/StringUTF16", name := "charAt", desc := "([BI)C" } : Jvm.MethodName) prog_20_method_83_code (2 : Nat) (Option.some Jvm.ClassFile.FieldType.char)) ∈ lw_all := lw_g (lw_at lw_m1 196 rfl) rfl
theorem q423 : (Jvm.Cond.methodLink "java/lang/StringUTF16" (67 : Nat) ({ cls := "java/lang/StringUTF16", name := "checkIndex", desc := "(I[B)V" } : Jvm.MethodName)) ∈ lw_all := lw_g (lw_at lw_m1 197 rfl) rfl
theorem q424 : (Jvm.Cond.static ({ cls := "java/lang/StringUTF16", name := "checkIndex", desc := "(I[B)V" } : Jvm.MethodName)) ∈ lw_all := lw_g (lw_at lw_m1 198 rfl) rfl
theorem q425 : (Jvm.Cond.code ({ cls := "java/lang/StringUTF16", name := "checkIndex", desc := "(I[B)V" } : Jvm.MethodName) prog_20_method_91_code (2 : Nat) (Option.none : Option Jvm.ClassFile.FieldType)) ∈ lw_all := lw_g (lw_at lw_m1 199 rfl) rfl
theorem q426 : (Jvm.Cond.methodLink "java/lang/StringUTF16" (48 : Nat) ({ cls := "java/lang/StringUTF16", name := "length", desc := "([B)I" } : Jvm.MethodName)) ∈ lw_all := lw_g (lw_at lw_m1 200 rfl) rfl
theorem q427 : (Jvm.Cond.static ({ cls := "java/lang/StringUTF16", name := "length", desc := "([B)I" } : Jvm.MethodName)) ∈ lw_all := lw_g (lw_at lw_m1 201 rfl) rfl
theorem q428 : (Jvm.Cond.code ({ cls := "java/lang/StringUTF16", name := "length", desc := "([B)I" } : Jvm.MethodName) prog_20_method_6_code (1 : Nat) (Option.some Jvm.ClassFile.FieldType.int)) ∈ lw_all := lw_g (lw_at lw_m1 202 rfl) rfl
theorem q429 : (Jvm.Cond.methodLink "java/lang/StringUTF16" (414 : Nat) ({ cls := "java/lang/String", name := "checkIndex", desc := "(II)V" } : Jvm.MethodName)) ∈ lw_all := lw_g (lw_at lw_m1 203 rfl) rfl
theorem q430 : (Jvm.Cond.methodLink "java/lang/StringUTF16" (71 : Nat) ({ cls := "java/lang/StringUTF16", name := "getChar", desc := "([BI)C" } : Jvm.MethodName)) ∈ lw_all := lw_g (lw_at lw_m1 204 rfl) rfl
theorem q431 : (Jvm.Cond.static ({ cls := "java/lang/StringUTF16", name := "getChar", desc := "([BI)C" } : Jvm.MethodName)) ∈ lw_all := lw_g (lw_at lw_m1 205 rfl) rfl
theorem q432 : (Jvm.Cond.code ({ cls := "java/lang/StringUTF16", name := "getChar", desc := "([BI)C" } : Jvm.MethodName) prog_20_method_5_code (2 : Nat) (Option.some Jvm.ClassFile.FieldType.char)) ∈ lw_all := lw_g (lw_at lw_m1 206 rfl) rfl
theorem q433 : (Jvm.Cond.fieldLink "java/lang/StringUTF16" (44 : Nat) "java/lang/StringUTF16" "$assertionsDisabled" "Z") ∈ lw_all := lw_g (lw_at lw_m1 207 rfl) rfl
theorem q434 : (Jvm.Cond.laysStatic "java/lang/StringUTF16" "$assertionsDisabled" "Z") ∈ lw_tbl := lw_at lw_m1 208 rfl
theorem q435 : (Jvm.Cond.fieldLink "java/lang/StringUTF16" (59 : Nat) "java/lang/StringUTF16" "HI_BYTE_SHIFT" "I") ∈ lw_all := lw_g (lw_at lw_m1 209 rfl) rfl
theorem q436 : (Jvm.Cond.laysStatic "java/lang/StringUTF16" "HI_BYTE_SHIFT" "I") ∈ lw_tbl := lw_at lw_m1 210 rfl
theorem q437 : (Jvm.Cond.fieldLink "java/lang/StringUTF16" (63 : Nat) "java/lang/StringUTF16" "LO_BYTE_SHIFT" "I") ∈ lw_all := lw_g (lw_at lw_m1 211 rfl) rfl
theorem q438 : (Jvm.Cond.laysStatic "java/lang/StringUTF16" "LO_BYTE_SHIFT" "I") ∈ lw_tbl := lw_at lw_m1 212 rfl
theorem q1221 : (Jvm.Cond.static ({ cls := "java/lang/StringUTF16", name := "indexOf", desc := "([BIII)I" } : Jvm.MethodName)) ∈ lw_all := lw_g (lw_at lw_m5 35 rfl) rfl
theorem q1222 : (Jvm.Cond.code ({ cls := "java/lang/StringUTF16", name := "indexOf", desc := "([BIII)I" } : Jvm.MethodName) prog_20_method_40_code (4 : Nat) (Option.some Jvm.ClassFile.FieldType.int)) ∈ lw_all := lw_g (lw_at lw_m5 36 rfl) rfl
theorem q1223 : (Jvm.Cond.methodLink "java/lang/StringUTF16" (224 : Nat) ({ cls := "java/lang/Math", name := "max", desc := "(II)I" } : Jvm.MethodName)) ∈ lw_all := lw_g (lw_at lw_m5 37 rfl) rfl
theorem q1224 : (Jvm.Cond.methodLink "java/lang/StringUTF16" (183 : Nat) ({ cls := "java/lang/Math", name := "min", desc := "(II)I" } : Jvm.MethodName)) ∈ lw_all := lw_g (lw_at lw_m5 38 rfl) rfl
theorem q1225 : (Jvm.Cond.constant "java/lang/StringUTF16" (227 : Nat) (65536 : Int32)) ∈ lw_all := lw_g (lw_at lw_m5 39 rfl) rfl
theorem q1226 : (Jvm.Cond.methodLink "java/lang/StringUTF16" (228 : Nat) ({ cls := "java/lang/StringUTF16", name := "indexOfChar", desc := "([BIII)I" } : Jvm.MethodName)) ∈ lw_all := lw_g (lw_at lw_m5 40 rfl) rfl
theorem q1227 : (Jvm.Cond.static ({ cls := "java/lang/StringUTF16", name := "indexOfChar", desc := "([BIII)I" } : Jvm.MethodName)) ∈ lw_all := lw_g (lw_at lw_m5 41 rfl) rfl
theorem q1228 : (Jvm.Cond.code ({ cls := "java/lang/StringUTF16", name := "indexOfChar", desc := "([BIII)I" } : Jvm.MethodName) prog_20_method_47_code (4 : Nat) (Option.some Jvm.ClassFile.FieldType.int)) ∈ lw_all := lw_g (lw_at lw_m5 42 rfl) rfl
theorem q1229 : (Jvm.Cond.methodLink "java/lang/StringUTF16" (96 : Nat) ({ cls := "java/lang/StringUTF16", name := "checkBoundsBeginEnd", desc := "(II[B)V" } : Jvm.MethodName)) ∈ lw_all := lw_g (lw_at lw_m5 43 rfl) rfl
theorem q1230 : (Jvm.Cond.static ({ cls := "java/lang/StringUTF16", name := "checkBoundsBeginEnd", desc := "(II[B)V" } : Jvm.MethodName)) ∈ lw_all := lw_g (lw_at lw_m5 44 rfl) rfl
theorem q1231 : (Jvm.Cond.code ({ cls := "java/lang/StringUTF16", name := "checkBoundsBeginEnd", desc := "(II[B)V" } : Jvm.MethodName) prog_20_method_93_code (3 : Nat) (Option.none : Option Jvm.ClassFile.FieldType)) ∈ lw_all := lw_g (lw_at lw_m5 45 rfl) rfl
theorem q1232 : (Jvm.Cond.methodLink "java/lang/StringUTF16" (241 : Nat) ({ cls := "java/lang/String", name := "checkBoundsBeginEnd", desc := "(III)V" } : Jvm.MethodName)) ∈ lw_all := lw_g (lw_at lw_m5 46 rfl) rfl
theorem q1238 : (Jvm.Cond.methodLink "java/lang/StringUTF16" (244 : Nat) ({ cls := "java/lang/StringUTF16", name := "indexOfCharUnsafe", desc := "([BIII)I" } : Jvm.MethodName)) ∈ lw_all := lw_g (lw_at lw_m5 52 rfl) rfl
theorem q1239 : (Jvm.Cond.static ({ cls := "java/lang/StringUTF16", name := "indexOfCharUnsafe", desc := "([BIII)I" } : Jvm.MethodName)) ∈ lw_all := lw_g (lw_at lw_m5 53 rfl) rfl
theorem q1240 : (Jvm.Cond.code ({ cls := "java/lang/StringUTF16", name := "indexOfCharUnsafe", desc := "([BIII)I" } : Jvm.MethodName) prog_20_method_48_code (5 : Nat) (Option.some Jvm.ClassFile.FieldType.int)) ∈ lw_all := lw_g (lw_at lw_m5 54 rfl) rfl
theorem q1241 : (Jvm.Cond.methodLink "java/lang/StringUTF16" (232 : Nat) ({ cls := "java/lang/StringUTF16", name := "indexOfSupplementary", desc := "([BIII)I" } : Jvm.MethodName)) ∈ lw_all := lw_g (lw_at lw_m5 55 rfl) rfl
theorem q1242 : (Jvm.Cond.static ({ cls := "java/lang/StringUTF16", name := "indexOfSupplementary", desc := "([BIII)I" } : Jvm.MethodName)) ∈ lw_all := lw_g (lw_at lw_m5 56 rfl) rfl
theorem q1243 : (Jvm.Cond.code ({ cls := "java/lang/StringUTF16", name := "indexOfSupplementary", desc := "([BIII)I" } : Jvm.MethodName) prog_20_method_49_code (7 : Nat) (Option.some Jvm.ClassFile.FieldType.int)) ∈ lw_all := lw_g (lw_at lw_m5 57 rfl) rfl
theorem q1244 : (Jvm.Cond.methodLink "java/lang/StringUTF16" (164 : Nat) ({ cls := "java/lang/Character", name := "isValidCodePoint", desc := "(I)Z" } : Jvm.MethodName)) ∈ lw_all := lw_g (lw_at lw_m5 58 rfl) rfl
theorem q1247 : (Jvm.Cond.methodLink "java/lang/StringUTF16" (157 : Nat) ({ cls := "java/lang/Character", name := "highSurrogate", desc := "(I)C" } : Jvm.MethodName)) ∈ lw_all := lw_g (lw_at lw_m5 61 rfl) rfl
theorem q1251 : (Jvm.Cond.methodLink "java/lang/StringUTF16" (161 : Nat) ({ cls := "java/lang/Character", name := "lowSurrogate", desc := "(I)C" } : Jvm.MethodName)) ∈ lw_all := lw_g (lw_at lw_m5 65 rfl) rfl
theorem q1298 : (Jvm.Cond.static ({ cls := "java/lang/StringUTF16", name := "indexOf", desc := "([B[B)I" } : Jvm.MethodName)) ∈ lw_all := lw_g (lw_at lw_m5 112 rfl) rfl
theorem q1299 : (Jvm.Cond.code ({ cls := "java/lang/StringUTF16", name := "indexOf", desc := "([B[B)I" } : Jvm.MethodName) prog_20_method_41_code (2 : Nat) (Option.some Jvm.ClassFile.FieldType.int)) ∈ lw_all := lw_g (lw_at lw_m5 113 rfl) rfl
theorem q1300 : (Jvm.Cond.methodLink "java/lang/StringUTF16" (235 : Nat) ({ cls := "java/lang/StringUTF16", name := "indexOfUnsafe", desc := "([BI[BII)I" } : Jvm.MethodName)) ∈ lw_all := lw_g (lw_at lw_m5 114 rfl) rfl
theorem q1301 : (Jvm.Cond.static ({ cls := "java/lang/StringUTF16", name := "indexOfUnsafe", desc := "([BI[BII)I" } : Jvm.MethodName)) ∈ lw_all := lw_g (lw_at lw_m5 115 rfl) rfl
theorem q1302 : (Jvm.Cond.code ({ cls := "java/lang/StringUTF16", name := "indexOfUnsafe", desc := "([BI[BII)I" } : Jvm.MethodName) prog_20_method_43_code (11 : Nat) (Option.some Jvm.ClassFile.FieldType.int)) ∈ lw_all := lw_g (lw_at lw_m5 116 rfl) rfl
theorem q1304 : (Jvm.Cond.static ({ cls := "java/lang/StringUTF16", name := "indexOfLatin1", desc := "([B[B)I" } : Jvm.MethodName)) ∈ lw_all := lw_g (lw_at lw_m5 118 rfl) rfl
theorem q1305 : (Jvm.Cond.code ({ cls := "java/lang/StringUTF16", name := "indexOfLatin1", desc := "([B[B)I" } : Jvm.MethodName) prog_20_method_44_code (2 : Nat) (Option.some Jvm.ClassFile.FieldType.int)) ∈ lw_all := lw_g (lw_at lw_m5 119 rfl) rfl
theorem q1306 : (Jvm.Cond.methodLink "java/lang/StringUTF16" (238 : Nat) ({ cls := "java/lang/StringUTF16", name := "indexOfLatin1Unsafe", desc := "([BI[BII)I" } : Jvm.MethodName)) ∈ lw_all := lw_g (lw_at lw_m5 120 rfl) rfl
theorem q1307 : (Jvm.Cond.static ({ cls := "java/lang/StringUTF16", name := "indexOfLatin1Unsafe", desc := "([BI[BII)I" } : Jvm.MethodName)) ∈ lw_all := lw_g (lw_at lw_m5 121 rfl) rfl
theorem q1308 : (Jvm.Cond.code ({ cls := "java/lang/StringUTF16", name := "indexOfLatin1Unsafe", desc := "([BI[BII)I" } : Jvm.MethodName) prog_20_method_46_code (11 : Nat) (Option.some Jvm.ClassFile.FieldType.int)) ∈ lw_all := lw_g (lw_at lw_m5 122 rfl) rfl
/-! java/lang/Math -/
def RJ4 : String := "java/lang/Math"
abbrev cJ4_min : ByteArray := prog_16_method_69_code
def yJ4_min : MethodName := ⟨RJ4, "min", "(II)I"⟩
abbrev cJ4_max : ByteArray := prog_16_method_65_code
def yJ4_max : MethodName := ⟨RJ4, "max", "(II)I"⟩
abbrev cJ4_abs : ByteArray := prog_16_method_61_code
def yJ4_abs : MethodName := ⟨RJ4, "abs", "(J)J"⟩
abbrev cJ4_multiplyHigh : ByteArray := prog_16_method_45_code
def yJ4_multiplyHigh : MethodName := ⟨RJ4, "multiplyHigh", "(JJ)J"⟩
theorem q241 : (Jvm.Cond.initialized "java/lang/Math") ∈ lw_all := lw_g (lw_at lw_m1 15 rfl) rfl
theorem q936 : (Jvm.Cond.static ({ cls := "java/lang/Math", name := "min", desc := "(II)I" } : Jvm.MethodName)) ∈ lw_all := lw_g (lw_at lw_m3 230 rfl) rfl
theorem q937 : (Jvm.Cond.code ({ cls := "java/lang/Math", name := "min", desc := "(II)I" } : Jvm.MethodName) prog_16_method_69_code (2 : Nat) (Option.some Jvm.ClassFile.FieldType.int)) ∈ lw_all := lw_g (lw_at lw_m3 231 rfl) rfl
theorem q939 : (Jvm.Cond.static ({ cls := "java/lang/Math", name := "max", desc := "(II)I" } : Jvm.MethodName)) ∈ lw_all := lw_g (lw_at lw_m3 233 rfl) rfl
theorem q940 : (Jvm.Cond.code ({ cls := "java/lang/Math", name := "max", desc := "(II)I" } : Jvm.MethodName) prog_16_method_65_code (2 : Nat) (Option.some Jvm.ClassFile.FieldType.int)) ∈ lw_all := lw_g (lw_at lw_m3 234 rfl) rfl
theorem q1489 : (Jvm.Cond.static ({ cls := "java/lang/Math", name := "abs", desc := "(J)J" } : Jvm.MethodName)) ∈ lw_all := lw_g (lw_at lw_m6 63 rfl) rfl
theorem q1490 : (Jvm.Cond.code ({ cls := "java/lang/Math", name := "abs", desc := "(J)J" } : Jvm.MethodName) prog_16_method_61_code (2 : Nat) (Option.some Jvm.ClassFile.FieldType.long)) ∈ lw_all := lw_g (lw_at lw_m6 64 rfl) rfl
theorem q1513 : (Jvm.Cond.static ({ cls := "java/lang/Math", name := "multiplyHigh", desc := "(JJ)J" } : Jvm.MethodName)) ∈ lw_all := lw_g (lw_at lw_m6 87 rfl) rfl
theorem q1514 : (Jvm.Cond.code ({ cls := "java/lang/Math", name := "multiplyHigh", desc := "(JJ)J" } : Jvm.MethodName) prog_16_method_45_code (20 : Nat) (Option.some Jvm.ClassFile.FieldType.long)) ∈ lw_all := lw_g (lw_at lw_m6 88 rfl) rfl
theorem q1515 : (Jvm.Cond.constantLong "java/lang/Math" (138 : Nat) (4294967295 : Int64)) ∈ lw_all := lw_g (lw_at lw_m6 89 rfl) rfl
/-! java/lang/Throwable -/
def RJ5 : String := "java/lang/Throwable"
def TJ5 : u_T := fun k => match k with
  | 0 => ("java/lang/Throwable", "cause", "Ljava/lang/Throwable;", false)
  | 1 => ("java/lang/Throwable", "stackTrace", "[Ljava/lang/StackTraceElement;", false)
  | 2 => ("java/lang/Throwable", "suppressedExceptions", "Ljava/util/List;", false)
  | 3 => ("java/lang/Throwable", "detailMessage", "Ljava/lang/String;", false)
  | _ => ("java/lang/Throwable", "backtrace", "Ljava/lang/Object;", false)
def tyJ5 : Nat → FieldType := fun k => match k with
  | 0 => .object "java/lang/Throwable"
  | 1 => .array (.object "java/lang/StackTraceElement")
  | 2 => .object "java/util/List"
  | 3 => .object "java/lang/String"
  | _ => .object "java/lang/Object"
abbrev wsJ50 : List Cond := u_ws RJ5 TJ5 5
theorem nmJ5 : ∀ a, a < 5 → ∀ b, b < 5 → a ≠ b → (TJ5 a).2.1 ≠ (TJ5 b).2.1 := by decide +kernel
theorem tyJ5_ok : ∀ k, k < 5 → parseFieldDescriptor (TJ5 k).2.2.1 = some (tyJ5 k) := by decide +kernel
abbrev cJ5_init : ByteArray := prog_22_method_1_code
def yJ5_init : MethodName := ⟨RJ5, "<init>", "()V"⟩
theorem q243 : (Jvm.Cond.initialized "java/lang/Throwable") ∈ lw_all := lw_g (lw_at lw_m1 17 rfl) rfl
theorem q2000 : (Jvm.Cond.declares ({ cls := "java/lang/Throwable", name := "<init>", desc := "()V" } : Jvm.MethodName)) ∈ lw_tbl := lw_at lw_m8 94 rfl
theorem q2001 : (Jvm.Cond.declares ({ cls := "java/lang/Throwable", name := "<init>", desc := "(Ljava/lang/String;)V" } : Jvm.MethodName)) ∈ lw_tbl := lw_at lw_m8 95 rfl
theorem q2005 : (Jvm.Cond.lays "java/lang/Throwable" "java/lang/Throwable" "cause" "Ljava/lang/Throwable;") ∈ lw_all := lw_g (lw_at lw_m8 99 rfl) rfl
theorem q2007 : (Jvm.Cond.lays "java/lang/Throwable" "java/lang/Throwable" "stackTrace" "[Ljava/lang/StackTraceElement;") ∈ lw_all := lw_g (lw_at lw_m8 101 rfl) rfl
theorem q2009 : (Jvm.Cond.lays "java/lang/Throwable" "java/lang/Throwable" "suppressedExceptions" "Ljava/util/List;") ∈ lw_all := lw_g (lw_at lw_m8 103 rfl) rfl
theorem q2011 : (Jvm.Cond.lays "java/lang/Throwable" "java/lang/Throwable" "detailMessage" "Ljava/lang/String;") ∈ lw_all := lw_g (lw_at lw_m8 105 rfl) rfl
theorem q2013 : (Jvm.Cond.lays "java/lang/Throwable" "java/lang/Throwable" "backtrace" "Ljava/lang/Object;") ∈ lw_all := lw_g (lw_at lw_m8 107 rfl) rfl
theorem q2014 : (Jvm.Cond.fieldLink "java/lang/Throwable" (198 : Nat) "java/lang/Throwable" "backtrace" "Ljava/lang/Object;") ∈ lw_all := lw_g (lw_at lw_m8 108 rfl) rfl
theorem q2015 : (Jvm.Cond.superclass "java/lang/Throwable" "java/lang/Object") ∈ lw_all := lw_g (lw_at lw_m8 109 rfl) rfl
theorem q2016 : (Jvm.Cond.instanceMethod ({ cls := "java/lang/Throwable", name := "<init>", desc := "()V" } : Jvm.MethodName)) ∈ lw_all := lw_g (lw_at lw_m8 110 rfl) rfl
theorem q2017 : (Jvm.Cond.code ({ cls := "java/lang/Throwable", name := "<init>", desc := "()V" } : Jvm.MethodName) prog_22_method_1_code (1 : Nat) (Option.none : Option Jvm.ClassFile.FieldType)) ∈ lw_all := lw_g (lw_at lw_m8 111 rfl) rfl
theorem q2018 : (Jvm.Cond.methodLink "java/lang/Throwable" (1 : Nat) ({ cls := "java/lang/Object", name := "<init>", desc := "()V" } : Jvm.MethodName)) ∈ lw_all := lw_g (lw_at lw_m8 112 rfl) rfl
theorem q2019 : (Jvm.Cond.fieldLink "java/lang/Throwable" (13 : Nat) "java/lang/Throwable" "UNASSIGNED_STACK" "[Ljava/lang/StackTraceElement;") ∈ lw_all := lw_g (lw_at lw_m8 113 rfl) rfl
theorem q2020 : (Jvm.Cond.laysStatic "java/lang/Throwable" "UNASSIGNED_STACK" "[Ljava/lang/StackTraceElement;") ∈ lw_tbl := lw_at lw_m8 114 rfl
theorem q2021 : (Jvm.Cond.fieldLink "java/lang/Throwable" (20 : Nat) "java/lang/Throwable" "SUPPRESSED_SENTINEL" "Ljava/util/List;") ∈ lw_all := lw_g (lw_at lw_m8 115 rfl) rfl
theorem q2022 : (Jvm.Cond.laysStatic "java/lang/Throwable" "SUPPRESSED_SENTINEL" "Ljava/util/List;") ∈ lw_tbl := lw_at lw_m8 116 rfl
theorem q2023 : (Jvm.Cond.methodLink "java/lang/Throwable" (27 : Nat) ({ cls := "java/lang/Throwable", name := "fillInStackTrace", desc := "()Ljava/lang/Throwable;" } : Jvm.MethodName)) ∈ lw_all := lw_g (lw_at lw_m8 117 rfl) rfl
theorem q2024 : (Jvm.Cond.instanceMethod ({ cls := "java/lang/Throwable", name := "fillInStackTrace", desc := "()Ljava/lang/Throwable;" } : Jvm.MethodName)) ∈ lw_all := lw_g (lw_at lw_m8 118 rfl) rfl
theorem q2025 : (Jvm.Cond.sameMethod "java/lang/Throwable" "java/lang/Throwable" "fillInStackTrace" "()Ljava/lang/Throwable;") ∈ lw_all := lw_g (lw_at lw_m8 119 rfl) rfl
theorem q2026 : (Jvm.Cond.codeSync ({ cls := "java/lang/Throwable", name := "fillInStackTrace", desc := "()Ljava/lang/Throwable;" } : Jvm.MethodName) prog_22_method_18_code (1 : Nat) (Option.some (Jvm.ClassFile.FieldType.object "java/lang/Throwable"))) ∈ lw_all := lw_g (lw_at lw_m8 120 rfl) rfl
theorem q2027 : (Jvm.Cond.methodLink "java/lang/Throwable" (202 : Nat) ({ cls := "java/lang/Throwable", name := "fillInStackTrace", desc := "(I)Ljava/lang/Throwable;" } : Jvm.MethodName)) ∈ lw_all := lw_g (lw_at lw_m8 121 rfl) rfl
theorem q2028 : (Jvm.Cond.privateMethod ({ cls := "java/lang/Throwable", name := "fillInStackTrace", desc := "(I)Ljava/lang/Throwable;" } : Jvm.MethodName)) ∈ lw_tbl := lw_at lw_m8 122 rfl
theorem q2029 : (Jvm.Cond.instanceMethod ({ cls := "java/lang/Throwable", name := "fillInStackTrace", desc := "(I)Ljava/lang/Throwable;" } : Jvm.MethodName)) ∈ lw_all := lw_g (lw_at lw_m8 123 rfl) rfl
theorem q2030 : (Jvm.Cond.instantiable "java/lang/Throwable" (6 : Nat)) ∈ lw_all := lw_g (lw_at lw_m8 124 rfl) rfl
theorem q2031 : (Jvm.Cond.native ({ cls := "java/lang/Throwable", name := "fillInStackTrace", desc := "(I)Ljava/lang/Throwable;" } : Jvm.MethodName)) ∈ lw_all := lw_g (lw_at lw_m8 125 rfl) rfl
theorem q2042 : (Jvm.Cond.fieldLink "java/lang/Throwable" (198 : Nat) "java/lang/Throwable" "backtrace" "Ljava/lang/Object;") ∈ lw_all := lw_g (lw_at lw_m8 136 rfl) rfl
theorem q2043 : (Jvm.Cond.fieldLink "java/lang/Throwable" (7 : Nat) "java/lang/Throwable" "cause" "Ljava/lang/Throwable;") ∈ lw_all := lw_g (lw_at lw_m8 137 rfl) rfl
theorem q2044 : (Jvm.Cond.fieldLink "java/lang/Throwable" (17 : Nat) "java/lang/Throwable" "stackTrace" "[Ljava/lang/StackTraceElement;") ∈ lw_all := lw_g (lw_at lw_m8 138 rfl) rfl
theorem q2045 : (Jvm.Cond.fieldLink "java/lang/Throwable" (24 : Nat) "java/lang/Throwable" "suppressedExceptions" "Ljava/util/List;") ∈ lw_all := lw_g (lw_at lw_m8 139 rfl) rfl
theorem q2046 : (Jvm.Cond.soleField "java/lang/Throwable" "backtrace") ∈ lw_all := lw_g (lw_at lw_m8 140 rfl) rfl
theorem q2047 : (Jvm.Cond.soleField "java/lang/Throwable" "detailMessage") ∈ lw_all := lw_g (lw_at lw_m8 141 rfl) rfl
theorem q2048 : (Jvm.Cond.soleField "java/lang/Throwable" "cause") ∈ lw_all := lw_g (lw_at lw_m8 142 rfl) rfl
theorem q2049 : (Jvm.Cond.soleField "java/lang/Throwable" "stackTrace") ∈ lw_all := lw_g (lw_at lw_m8 143 rfl) rfl
theorem q2051 : (Jvm.Cond.soleField "java/lang/Throwable" "depth") ∈ lw_all := lw_g (lw_at lw_m8 145 rfl) rfl
theorem q2052 : (Jvm.Cond.soleField "java/lang/Throwable" "suppressedExceptions") ∈ lw_all := lw_g (lw_at lw_m8 146 rfl) rfl
theorem q3106 : (Jvm.Cond.sameMethod "java/lang/Throwable" "java/lang/Throwable" "fillInStackTrace" "(I)Ljava/lang/Throwable;") ∈ lw_all := lw_g (lw_at lw_m13 0 rfl) rfl
theorem in_J5 : ∀ w ∈ wsJ50, w ∈ lw_all := lw_in wsJ50 [2005, 2007, 2009, 2011, 2013] (by decide +kernel) (by decide +kernel)
/-! java/lang/Exception -/
def RJ6 : String := "java/lang/Exception"
abbrev cJ6_init : ByteArray := prog_14_method_1_code
def yJ6_init : MethodName := ⟨RJ6, "<init>", "()V"⟩
theorem q244 : (Jvm.Cond.initialized "java/lang/Exception") ∈ lw_all := lw_g (lw_at lw_m1 18 rfl) rfl
theorem q1998 : (Jvm.Cond.declares ({ cls := "java/lang/Exception", name := "<init>", desc := "()V" } : Jvm.MethodName)) ∈ lw_tbl := lw_at lw_m8 92 rfl
theorem q1999 : (Jvm.Cond.declares ({ cls := "java/lang/Exception", name := "<init>", desc := "(Ljava/lang/String;)V" } : Jvm.MethodName)) ∈ lw_tbl := lw_at lw_m8 93 rfl
theorem q2039 : (Jvm.Cond.instanceMethod ({ cls := "java/lang/Exception", name := "<init>", desc := "()V" } : Jvm.MethodName)) ∈ lw_all := lw_g (lw_at lw_m8 133 rfl) rfl
theorem q2040 : (Jvm.Cond.code ({ cls := "java/lang/Exception", name := "<init>", desc := "()V" } : Jvm.MethodName) prog_14_method_1_code (1 : Nat) (Option.none : Option Jvm.ClassFile.FieldType)) ∈ lw_all := lw_g (lw_at lw_m8 134 rfl) rfl
theorem q2041 : (Jvm.Cond.methodLink "java/lang/Exception" (1 : Nat) ({ cls := "java/lang/Throwable", name := "<init>", desc := "()V" } : Jvm.MethodName)) ∈ lw_all := lw_g (lw_at lw_m8 135 rfl) rfl
/-! java/lang/RuntimeException -/
def RJ7 : String := "java/lang/RuntimeException"
abbrev cJ7_init : ByteArray := prog_17_method_1_code
def yJ7_init : MethodName := ⟨RJ7, "<init>", "()V"⟩
theorem q245 : (Jvm.Cond.initialized "java/lang/RuntimeException") ∈ lw_all := lw_g (lw_at lw_m1 19 rfl) rfl
theorem q1996 : (Jvm.Cond.declares ({ cls := "java/lang/RuntimeException", name := "<init>", desc := "()V" } : Jvm.MethodName)) ∈ lw_tbl := lw_at lw_m8 90 rfl
theorem q1997 : (Jvm.Cond.declares ({ cls := "java/lang/RuntimeException", name := "<init>", desc := "(Ljava/lang/String;)V" } : Jvm.MethodName)) ∈ lw_tbl := lw_at lw_m8 91 rfl
theorem q2036 : (Jvm.Cond.instanceMethod ({ cls := "java/lang/RuntimeException", name := "<init>", desc := "()V" } : Jvm.MethodName)) ∈ lw_all := lw_g (lw_at lw_m8 130 rfl) rfl
theorem q2037 : (Jvm.Cond.code ({ cls := "java/lang/RuntimeException", name := "<init>", desc := "()V" } : Jvm.MethodName) prog_17_method_1_code (1 : Nat) (Option.none : Option Jvm.ClassFile.FieldType)) ∈ lw_all := lw_g (lw_at lw_m8 131 rfl) rfl
theorem q2038 : (Jvm.Cond.methodLink "java/lang/RuntimeException" (1 : Nat) ({ cls := "java/lang/Exception", name := "<init>", desc := "()V" } : Jvm.MethodName)) ∈ lw_all := lw_g (lw_at lw_m8 132 rfl) rfl
/-! java/lang/Character -/
def RJ8 : String := "java/lang/Character"
abbrev cJ8_isValidCodePoint : ByteArray := prog_13_method_11_code
def yJ8_isValidCodePoint : MethodName := ⟨RJ8, "isValidCodePoint", "(I)Z"⟩
abbrev cJ8_highSurrogate : ByteArray := prog_13_method_28_code
def yJ8_highSurrogate : MethodName := ⟨RJ8, "highSurrogate", "(I)C"⟩
abbrev cJ8_lowSurrogate : ByteArray := prog_13_method_29_code
def yJ8_lowSurrogate : MethodName := ⟨RJ8, "lowSurrogate", "(I)C"⟩
theorem q247 : (Jvm.Cond.initialized "java/lang/Character") ∈ lw_all := lw_g (lw_at lw_m1 21 rfl) rfl
theorem q1245 : (Jvm.Cond.static ({ cls := "java/lang/Character", name := "isValidCodePoint", desc := "(I)Z" } : Jvm.MethodName)) ∈ lw_all := lw_g (lw_at lw_m5 59 rfl) rfl
theorem q1246 : (Jvm.Cond.code ({ cls := "java/lang/Character", name := "isValidCodePoint", desc := "(I)Z" } : Jvm.MethodName) prog_13_method_11_code (2 : Nat) (Option.some Jvm.ClassFile.FieldType.boolean)) ∈ lw_all := lw_g (lw_at lw_m5 60 rfl) rfl
theorem q1248 : (Jvm.Cond.static ({ cls := "java/lang/Character", name := "highSurrogate", desc := "(I)C" } : Jvm.MethodName)) ∈ lw_all := lw_g (lw_at lw_m5 62 rfl) rfl
theorem q1249 : (Jvm.Cond.code ({ cls := "java/lang/Character", name := "highSurrogate", desc := "(I)C" } : Jvm.MethodName) prog_13_method_28_code (1 : Nat) (Option.some Jvm.ClassFile.FieldType.char)) ∈ lw_all := lw_g (lw_at lw_m5 63 rfl) rfl
theorem q1250 : (Jvm.Cond.constant "java/lang/Character" (110 : Nat) (55232 : Int32)) ∈ lw_all := lw_g (lw_at lw_m5 64 rfl) rfl
theorem q1252 : (Jvm.Cond.static ({ cls := "java/lang/Character", name := "lowSurrogate", desc := "(I)C" } : Jvm.MethodName)) ∈ lw_all := lw_g (lw_at lw_m5 66 rfl) rfl
theorem q1253 : (Jvm.Cond.code ({ cls := "java/lang/Character", name := "lowSurrogate", desc := "(I)C" } : Jvm.MethodName) prog_13_method_29_code (1 : Nat) (Option.some Jvm.ClassFile.FieldType.char)) ∈ lw_all := lw_g (lw_at lw_m5 67 rfl) rfl
theorem q1254 : (Jvm.Cond.constant "java/lang/Character" (76 : Nat) (56320 : Int32)) ∈ lw_all := lw_g (lw_at lw_m5 68 rfl) rfl
/-! java/lang/Long -/
def RJ9 : String := "java/lang/Long"
abbrev cJ9_signum : ByteArray := prog_15_method_57_code
def yJ9_signum : MethodName := ⟨RJ9, "signum", "(J)I"⟩
abbrev cJ9_compare : ByteArray := prog_15_method_42_code
def yJ9_compare : MethodName := ⟨RJ9, "compare", "(JJ)I"⟩
theorem q248 : (Jvm.Cond.initialized "java/lang/Long") ∈ lw_all := lw_g (lw_at lw_m1 22 rfl) rfl
theorem q1485 : (Jvm.Cond.static ({ cls := "java/lang/Long", name := "signum", desc := "(J)I" } : Jvm.MethodName)) ∈ lw_all := lw_g (lw_at lw_m6 59 rfl) rfl
theorem q1486 : (Jvm.Cond.code ({ cls := "java/lang/Long", name := "signum", desc := "(J)I" } : Jvm.MethodName) prog_15_method_57_code (2 : Nat) (Option.some Jvm.ClassFile.FieldType.int)) ∈ lw_all := lw_g (lw_at lw_m6 60 rfl) rfl
theorem q1646 : (Jvm.Cond.static ({ cls := "java/lang/Long", name := "compare", desc := "(JJ)I" } : Jvm.MethodName)) ∈ lw_all := lw_g (lw_at lw_m6 220 rfl) rfl
theorem q1647 : (Jvm.Cond.code ({ cls := "java/lang/Long", name := "compare", desc := "(JJ)I" } : Jvm.MethodName) prog_15_method_42_code (4 : Nat) (Option.some Jvm.ClassFile.FieldType.int)) ∈ lw_all := lw_g (lw_at lw_m6 221 rfl) rfl
/-! java/lang/Object -/
def RJ10 : String := "java/lang/Object"
abbrev cJ10_init : ByteArray := object_method_1_code
def yJ10_init : MethodName := ⟨RJ10, "<init>", "()V"⟩
theorem q255 : (Jvm.Cond.instanceMethod ({ cls := "java/lang/Object", name := "<init>", desc := "()V" } : Jvm.MethodName)) ∈ lw_all := lw_g (lw_at lw_m1 29 rfl) rfl
theorem q256 : (Jvm.Cond.code ({ cls := "java/lang/Object", name := "<init>", desc := "()V" } : Jvm.MethodName) object_method_1_code (1 : Nat) (Option.none : Option Jvm.ClassFile.FieldType)) ∈ lw_all := lw_g (lw_at lw_m1 30 rfl) rfl
theorem q328 : (Jvm.Cond.arrayClass Jvm.ClassFile.FieldType.byte) ∈ lw_all := lw_g (lw_at lw_m1 102 rfl) rfl
theorem q329 : (Jvm.Cond.arrayClass Jvm.ClassFile.FieldType.int) ∈ lw_all := lw_g (lw_at lw_m1 103 rfl) rfl
theorem q330 : (Jvm.Cond.arrayClass Jvm.ClassFile.FieldType.long) ∈ lw_all := lw_g (lw_at lw_m1 104 rfl) rfl
theorem q363 : (Jvm.Cond.arrayOver (Jvm.ClassFile.FieldType.object "java/lang/String")) ∈ lw_tbl := lw_at lw_m1 137 rfl
theorem q796 : (Jvm.Cond.arrayClass Jvm.ClassFile.FieldType.boolean) ∈ lw_all := lw_g (lw_at lw_m3 90 rfl) rfl
theorem q235 : (Jvm.Cond.initialized "java/lang/System") ∈ lw_all := lw_g (lw_at lw_m1 9 rfl) rfl
theorem q452 : (Jvm.Cond.static ({ cls := "java/lang/System", name := "arraycopy", desc := "(Ljava/lang/Object;ILjava/lang/Object;II)V" } : Jvm.MethodName)) ∈ lw_all := lw_g (lw_at lw_m1 226 rfl) rfl
theorem q453 : (Jvm.Cond.native ({ cls := "java/lang/System", name := "arraycopy", desc := "(Ljava/lang/Object;ILjava/lang/Object;II)V" } : Jvm.MethodName)) ∈ lw_all := lw_g (lw_at lw_m1 227 rfl) rfl
