set_option maxRecDepth 100000
/-! SafeCode -/
def RX0 : String := "SafeCode"
def TX0 : u_T := fun k => match k with
  | 0 => ("SafeCode", "fault", "LSafeCode$Fault;", true)
  | 1 => ("SafeCode", "tokens", "LSafeCode$Tokens;", true)
  | 2 => ("SafeCode", "syntax", "LSafeCode$Syntax;", true)
  | 3 => ("SafeCode", "loader", "LSafeCode$Loader;", true)
  | 4 => ("SafeCode", "checker", "LSafeCode$Checker;", true)
  | 5 => ("SafeCode", "analysis", "LSafeCode$Analysis;", true)
  | 6 => ("SafeCode", "machine", "LSafeCode$Machine;", true)
  | 7 => ("SafeCode", "program", "LSafeCode$Program;", false)
  | 8 => ("SafeCode", "spare", "LSafeCode$Program;", false)
  | 9 => ("SafeCode", "hasProgram", "Z", false)
  | 10 => ("SafeCode", "fed", "[B", true)
  | 11 => ("SafeCode", "fedSize", "I", false)
  | 12 => ("SafeCode", "fedEver", "I", false)
  | 13 => ("SafeCode", "text", "[B", true)
  | 14 => ("SafeCode", "textSize", "I", false)
  | 15 => ("SafeCode", "input", "[I", true)
  | 16 => ("SafeCode", "inputs", "I", false)
  | 17 => ("SafeCode", "outcome", "I", false)
  | _ => ("SafeCode", "hasRun", "Z", false)
def tyX0 : Nat → FieldType := fun k => match k with
  | 0 => .object "SafeCode$Fault"
  | 1 => .object "SafeCode$Tokens"
  | 2 => .object "SafeCode$Syntax"
  | 3 => .object "SafeCode$Loader"
  | 4 => .object "SafeCode$Checker"
  | 5 => .object "SafeCode$Analysis"
  | 6 => .object "SafeCode$Machine"
  | 7 => .object "SafeCode$Program"
  | 8 => .object "SafeCode$Program"
  | 9 => .boolean
  | 10 => .array .byte
  | 11 => .int
  | 12 => .int
  | 13 => .array .byte
  | 14 => .int
  | 15 => .array .int
  | 16 => .int
  | 17 => .int
  | _ => .boolean
abbrev wsX00 : List Cond := u_ws RX0 TX0 19
theorem nmX0 : ∀ a, a < 19 → ∀ b, b < 19 → a ≠ b → (TX0 a).2.1 ≠ (TX0 b).2.1 := by decide +kernel
theorem tyX0_ok : ∀ k, k < 19 → parseFieldDescriptor (TX0 k).2.2.1 = some (tyX0 k) := by decide +kernel
abbrev cX0_init : ByteArray := prog_1_method_1_code
def yX0_init : MethodName := ⟨RX0, "<init>", "()V"⟩
abbrev cX0_feed : ByteArray := prog_1_method_2_code
def yX0_feed : MethodName := ⟨RX0, "feed", "(IIIII)I"⟩
abbrev cX0_put : ByteArray := prog_1_method_3_code
def yX0_put : MethodName := ⟨RX0, "put", "(I)V"⟩
abbrev cX0_end : ByteArray := prog_1_method_4_code
def yX0_end : MethodName := ⟨RX0, "end", "(I)Z"⟩
abbrev cX0_load : ByteArray := prog_1_method_5_code
def yX0_load : MethodName := ⟨RX0, "load", "()I"⟩
abbrev cX0_faultAt : ByteArray := prog_1_method_6_code
def yX0_faultAt : MethodName := ⟨RX0, "faultAt", "()I"⟩
abbrev cX0_size : ByteArray := prog_1_method_7_code
def yX0_size : MethodName := ⟨RX0, "size", "(I)I"⟩
abbrev cX0_errors : ByteArray := prog_1_method_9_code
def yX0_errors : MethodName := ⟨RX0, "errors", "(I)I"⟩
abbrev cX0_isCode : ByteArray := prog_1_method_8_code
def yX0_isCode : MethodName := ⟨RX0, "isCode", "(I)Z"⟩
abbrev cX0_escapes : ByteArray := prog_1_method_10_code
def yX0_escapes : MethodName := ⟨RX0, "escapes", "(I)J"⟩
abbrev cX0_ends : ByteArray := prog_1_method_11_code
def yX0_ends : MethodName := ⟨RX0, "ends", "()J"⟩
abbrev cX0_kind : ByteArray := prog_1_method_13_code
def yX0_kind : MethodName := ⟨RX0, "kind", "(II)I"⟩
abbrev cX0_isSlot : ByteArray := prog_1_method_12_code
def yX0_isSlot : MethodName := ⟨RX0, "isSlot", "(II)Z"⟩
abbrev cX0_low : ByteArray := prog_1_method_14_code
def yX0_low : MethodName := ⟨RX0, "low", "(II)I"⟩
abbrev cX0_high : ByteArray := prog_1_method_15_code
def yX0_high : MethodName := ⟨RX0, "high", "(II)I"⟩
abbrev cX0_sites : ByteArray := prog_1_method_16_code
def yX0_sites : MethodName := ⟨RX0, "sites", "(II)J"⟩
abbrev cX0_fact : ByteArray := prog_1_method_17_code
def yX0_fact : MethodName := ⟨RX0, "fact", "(III)I"⟩
abbrev cX0_lengths : ByteArray := prog_1_method_18_code
def yX0_lengths : MethodName := ⟨RX0, "lengths", "(II)I"⟩
abbrev cX0_input : ByteArray := prog_1_method_19_code
def yX0_input : MethodName := ⟨RX0, "input", "(I)Z"⟩
abbrev cX0_run : ByteArray := prog_1_method_20_code
def yX0_run : MethodName := ⟨RX0, "run", "(I)I"⟩
abbrev cX0_steps : ByteArray := prog_1_method_21_code
def yX0_steps : MethodName := ⟨RX0, "steps", "()I"⟩
abbrev cX0_place : ByteArray := prog_1_method_22_code
def yX0_place : MethodName := ⟨RX0, "place", "()I"⟩
abbrev cX0_thrown : ByteArray := prog_1_method_23_code
def yX0_thrown : MethodName := ⟨RX0, "thrown", "()I"⟩
abbrev cX0_written : ByteArray := prog_1_method_24_code
def yX0_written : MethodName := ⟨RX0, "written", "()I"⟩
abbrev cX0_out : ByteArray := prog_1_method_25_code
def yX0_out : MethodName := ⟨RX0, "out", "(I)I"⟩
abbrev cX0_strays : ByteArray := prog_1_method_26_code
def yX0_strays : MethodName := ⟨RX0, "strays", "()I"⟩
theorem q247 : (Jvm.Cond.initialized "SafeCode") ∈ lw_all := lw_g (lw_at lw_m1 1 rfl) rfl
theorem q276 : (Jvm.Cond.instantiable "SafeCode" (19 : Nat)) ∈ lw_all := lw_g (lw_at lw_m1 30 rfl) rfl
theorem q278 : (Jvm.Cond.instanceMethod ({ cls := "SafeCode", name := "<init>", desc := "()V" } : Jvm.MethodName)) ∈ lw_all := lw_g (lw_at lw_m1 32 rfl) rfl
theorem q279 : (Jvm.Cond.code ({ cls := "SafeCode", name := "<init>", desc := "()V" } : Jvm.MethodName) prog_1_method_1_code (1 : Nat) (Option.none : Option Jvm.ClassFile.FieldType)) ∈ lw_all := lw_g (lw_at lw_m1 33 rfl) rfl
theorem q280 : (Jvm.Cond.methodLink "SafeCode" (1 : Nat) ({ cls := "java/lang/Object", name := "<init>", desc := "()V" } : Jvm.MethodName)) ∈ lw_all := lw_g (lw_at lw_m1 34 rfl) rfl
theorem q283 : (Jvm.Cond.classLink "SafeCode" (7 : Nat) "SafeCode$Fault") ∈ lw_all := lw_g (lw_at lw_m1 37 rfl) rfl
theorem q285 : (Jvm.Cond.methodLinkNest "SafeCode" (9 : Nat) ({ cls := "SafeCode$Fault", name := "<init>", desc := "()V" } : Jvm.MethodName) "SafeCode") ∈ lw_tbl := lw_at lw_m1 39 rfl
theorem q352 : (Jvm.Cond.fieldLink "SafeCode" (119 : Nat) "SafeCode$Fault" "number" "I") ∈ lw_all := lw_g (lw_at lw_m1 106 rfl) rfl
theorem q354 : (Jvm.Cond.fieldLink "SafeCode" (129 : Nat) "SafeCode$Fault" "place" "I") ∈ lw_all := lw_g (lw_at lw_m1 108 rfl) rfl
theorem q362 : (Jvm.Cond.classLink "SafeCode" (16 : Nat) "SafeCode$Tokens") ∈ lw_all := lw_g (lw_at lw_m1 116 rfl) rfl
theorem q364 : (Jvm.Cond.methodLink "SafeCode" (18 : Nat) ({ cls := "SafeCode$Tokens", name := "<init>", desc := "(LSafeCode$Fault;)V" } : Jvm.MethodName)) ∈ lw_all := lw_g (lw_at lw_m1 118 rfl) rfl
theorem q402 : (Jvm.Cond.classLink "SafeCode" (25 : Nat) "SafeCode$Syntax") ∈ lw_all := lw_g (lw_at lw_m1 156 rfl) rfl
theorem q404 : (Jvm.Cond.methodLink "SafeCode" (27 : Nat) ({ cls := "SafeCode$Syntax", name := "<init>", desc := "(LSafeCode$Tokens;LSafeCode$Fault;)V" } : Jvm.MethodName)) ∈ lw_all := lw_g (lw_at lw_m1 158 rfl) rfl
theorem q460 : (Jvm.Cond.classLink "SafeCode" (34 : Nat) "SafeCode$Loader") ∈ lw_all := lw_g (lw_at lw_m1 214 rfl) rfl
theorem q462 : (Jvm.Cond.methodLink "SafeCode" (36 : Nat) ({ cls := "SafeCode$Loader", name := "<init>", desc := "(LSafeCode$Tokens;LSafeCode$Syntax;LSafeCode$Fault;)V" } : Jvm.MethodName)) ∈ lw_all := lw_g (lw_at lw_m1 216 rfl) rfl
theorem q496 : (Jvm.Cond.classLink "SafeCode" (43 : Nat) "SafeCode$Checker") ∈ lw_all := lw_g (lw_at lw_m2 10 rfl) rfl
theorem q498 : (Jvm.Cond.methodLink "SafeCode" (45 : Nat) ({ cls := "SafeCode$Checker", name := "<init>", desc := "(LSafeCode$Fault;)V" } : Jvm.MethodName)) ∈ lw_all := lw_g (lw_at lw_m2 12 rfl) rfl
theorem q528 : (Jvm.Cond.classLink "SafeCode" (50 : Nat) "SafeCode$Analysis") ∈ lw_all := lw_g (lw_at lw_m2 42 rfl) rfl
theorem q530 : (Jvm.Cond.methodLinkNest "SafeCode" (52 : Nat) ({ cls := "SafeCode$Analysis", name := "<init>", desc := "()V" } : Jvm.MethodName) "SafeCode") ∈ lw_tbl := lw_at lw_m2 44 rfl
theorem q542 : (Jvm.Cond.fieldLink "SafeCode" (145 : Nat) "SafeCode$Thresholds" "size" "I") ∈ lw_all := lw_g (lw_at lw_m2 56 rfl) rfl
theorem q582 : (Jvm.Cond.fieldLink "SafeCode" (200 : Nat) "SafeCode$Slots" "copy" "[I") ∈ lw_all := lw_g (lw_at lw_m2 96 rfl) rfl
theorem q585 : (Jvm.Cond.fieldLink "SafeCode" (203 : Nat) "SafeCode$Slots" "less" "[I") ∈ lw_all := lw_g (lw_at lw_m2 99 rfl) rfl
theorem q588 : (Jvm.Cond.fieldLink "SafeCode" (206 : Nat) "SafeCode$Slots" "under" "[I") ∈ lw_all := lw_g (lw_at lw_m2 102 rfl) rfl
theorem q591 : (Jvm.Cond.fieldLink "SafeCode" (209 : Nat) "SafeCode$Slots" "size" "[I") ∈ lw_all := lw_g (lw_at lw_m2 105 rfl) rfl
theorem q596 : (Jvm.Cond.fieldLink "SafeCode" (184 : Nat) "SafeCode$Slots" "kind" "[I") ∈ lw_all := lw_g (lw_at lw_m2 110 rfl) rfl
theorem q598 : (Jvm.Cond.fieldLink "SafeCode" (192 : Nat) "SafeCode$Slots" "low" "[I") ∈ lw_all := lw_g (lw_at lw_m2 112 rfl) rfl
theorem q600 : (Jvm.Cond.fieldLink "SafeCode" (220 : Nat) "SafeCode$Unknowns" "low" "[I") ∈ lw_all := lw_g (lw_at lw_m2 114 rfl) rfl
theorem q605 : (Jvm.Cond.fieldLink "SafeCode" (195 : Nat) "SafeCode$Slots" "high" "[I") ∈ lw_all := lw_g (lw_at lw_m2 119 rfl) rfl
theorem q607 : (Jvm.Cond.fieldLink "SafeCode" (221 : Nat) "SafeCode$Unknowns" "high" "[I") ∈ lw_all := lw_g (lw_at lw_m2 121 rfl) rfl
theorem q612 : (Jvm.Cond.fieldLink "SafeCode" (198 : Nat) "SafeCode$Slots" "sites" "[J") ∈ lw_all := lw_g (lw_at lw_m2 126 rfl) rfl
theorem q640 : (Jvm.Cond.fieldLink "SafeCode" (215 : Nat) "SafeCode$Unknowns" "there" "[Z") ∈ lw_all := lw_g (lw_at lw_m2 154 rfl) rfl
theorem q651 : (Jvm.Cond.fieldLink "SafeCode" (141 : Nat) "SafeCode$Analysis" "t" "LSafeCode$Thresholds;") ∈ lw_all := lw_g (lw_at lw_m2 165 rfl) rfl
theorem q654 : (Jvm.Cond.fieldLink "SafeCode" (180 : Nat) "SafeCode$Analysis" "states" "LSafeCode$Slots;") ∈ lw_all := lw_g (lw_at lw_m2 168 rfl) rfl
theorem q656 : (Jvm.Cond.fieldLink "SafeCode" (169 : Nat) "SafeCode$Analysis" "reached" "[Z") ∈ lw_all := lw_g (lw_at lw_m2 170 rfl) rfl
theorem q659 : (Jvm.Cond.fieldLink "SafeCode" (159 : Nat) "SafeCode$Analysis" "escapes" "[J") ∈ lw_all := lw_g (lw_at lw_m2 173 rfl) rfl
theorem q663 : (Jvm.Cond.fieldLink "SafeCode" (211 : Nat) "SafeCode$Analysis" "lengths" "LSafeCode$Unknowns;") ∈ lw_all := lw_g (lw_at lw_m2 177 rfl) rfl
theorem q669 : (Jvm.Cond.fieldLink "SafeCode" (163 : Nat) "SafeCode$Analysis" "thrown" "[J") ∈ lw_all := lw_g (lw_at lw_m2 183 rfl) rfl
theorem q731 : (Jvm.Cond.classLink "SafeCode" (57 : Nat) "SafeCode$Machine") ∈ lw_all := lw_g (lw_at lw_m3 5 rfl) rfl
theorem q733 : (Jvm.Cond.methodLinkNest "SafeCode" (59 : Nat) ({ cls := "SafeCode$Machine", name := "<init>", desc := "()V" } : Jvm.MethodName) "SafeCode") ∈ lw_tbl := lw_at lw_m3 7 rfl
theorem q752 : (Jvm.Cond.fieldLink "SafeCode" (249 : Nat) "SafeCode$Machine" "out" "[I") ∈ lw_all := lw_g (lw_at lw_m3 26 rfl) rfl
theorem q754 : (Jvm.Cond.fieldLink "SafeCode" (241 : Nat) "SafeCode$Machine" "written" "I") ∈ lw_all := lw_g (lw_at lw_m3 28 rfl) rfl
theorem q756 : (Jvm.Cond.fieldLink "SafeCode" (235 : Nat) "SafeCode$Machine" "steps" "I") ∈ lw_all := lw_g (lw_at lw_m3 30 rfl) rfl
theorem q758 : (Jvm.Cond.fieldLink "SafeCode" (238 : Nat) "SafeCode$Machine" "place" "I") ∈ lw_all := lw_g (lw_at lw_m3 32 rfl) rfl
theorem q760 : (Jvm.Cond.fieldLink "SafeCode" (239 : Nat) "SafeCode$Machine" "thrown" "I") ∈ lw_all := lw_g (lw_at lw_m3 34 rfl) rfl
theorem q803 : (Jvm.Cond.classLink "SafeCode" (64 : Nat) "SafeCode$Program") ∈ lw_all := lw_g (lw_at lw_m3 77 rfl) rfl
theorem q805 : (Jvm.Cond.methodLinkNest "SafeCode" (66 : Nat) ({ cls := "SafeCode$Program", name := "<init>", desc := "()V" } : Jvm.MethodName) "SafeCode") ∈ lw_tbl := lw_at lw_m3 79 rfl
theorem q812 : (Jvm.Cond.fieldLink "SafeCode" (148 : Nat) "SafeCode$Program" "classes" "I") ∈ lw_all := lw_g (lw_at lw_m3 86 rfl) rfl
theorem q835 : (Jvm.Cond.fieldLink "SafeCode" (138 : Nat) "SafeCode$Program" "bodies" "I") ∈ lw_all := lw_g (lw_at lw_m3 109 rfl) rfl
theorem q866 : (Jvm.Cond.fieldLink "SafeCode" (132 : Nat) "SafeCode$Program" "size" "I") ∈ lw_all := lw_g (lw_at lw_m3 140 rfl) rfl
theorem q892 : (Jvm.Cond.fieldLink "SafeCode" (173 : Nat) "SafeCode$Program" "height" "[I") ∈ lw_all := lw_g (lw_at lw_m3 166 rfl) rfl
theorem q896 : (Jvm.Cond.fieldLink "SafeCode" (135 : Nat) "SafeCode$Program" "sites" "I") ∈ lw_all := lw_g (lw_at lw_m3 170 rfl) rfl
theorem q931 : (Jvm.Cond.fieldLink "SafeCode" (166 : Nat) "SafeCode$Program" "main" "I") ∈ lw_all := lw_g (lw_at lw_m3 205 rfl) rfl
theorem q998 : (Jvm.Cond.methodLink "SafeCode" (85 : Nat) ({ cls := "SafeCode$Fault", name := "begin", desc := "()V" } : Jvm.MethodName)) ∈ lw_all := lw_g (lw_at lw_m4 32 rfl) rfl
theorem q1002 : (Jvm.Cond.fieldLink "SafeCode" (10 : Nat) "SafeCode" "fault" "LSafeCode$Fault;") ∈ lw_all := lw_g (lw_at lw_m4 36 rfl) rfl
theorem q1003 : (Jvm.Cond.fieldLink "SafeCode" (21 : Nat) "SafeCode" "tokens" "LSafeCode$Tokens;") ∈ lw_all := lw_g (lw_at lw_m4 37 rfl) rfl
theorem q1004 : (Jvm.Cond.fieldLink "SafeCode" (30 : Nat) "SafeCode" "syntax" "LSafeCode$Syntax;") ∈ lw_all := lw_g (lw_at lw_m4 38 rfl) rfl
theorem q1005 : (Jvm.Cond.fieldLink "SafeCode" (39 : Nat) "SafeCode" "loader" "LSafeCode$Loader;") ∈ lw_all := lw_g (lw_at lw_m4 39 rfl) rfl
theorem q1006 : (Jvm.Cond.fieldLink "SafeCode" (46 : Nat) "SafeCode" "checker" "LSafeCode$Checker;") ∈ lw_all := lw_g (lw_at lw_m4 40 rfl) rfl
theorem q1007 : (Jvm.Cond.fieldLink "SafeCode" (53 : Nat) "SafeCode" "analysis" "LSafeCode$Analysis;") ∈ lw_all := lw_g (lw_at lw_m4 41 rfl) rfl
theorem q1008 : (Jvm.Cond.fieldLink "SafeCode" (60 : Nat) "SafeCode" "machine" "LSafeCode$Machine;") ∈ lw_all := lw_g (lw_at lw_m4 42 rfl) rfl
theorem q1009 : (Jvm.Cond.fieldLink "SafeCode" (67 : Nat) "SafeCode" "program" "LSafeCode$Program;") ∈ lw_all := lw_g (lw_at lw_m4 43 rfl) rfl
theorem q1010 : (Jvm.Cond.fieldLink "SafeCode" (71 : Nat) "SafeCode" "spare" "LSafeCode$Program;") ∈ lw_all := lw_g (lw_at lw_m4 44 rfl) rfl
theorem q1011 : (Jvm.Cond.fieldLink "SafeCode" (122 : Nat) "SafeCode" "hasProgram" "Z") ∈ lw_all := lw_g (lw_at lw_m4 45 rfl) rfl
theorem q1012 : (Jvm.Cond.fieldLink "SafeCode" (74 : Nat) "SafeCode" "fed" "[B") ∈ lw_all := lw_g (lw_at lw_m4 46 rfl) rfl
theorem q1013 : (Jvm.Cond.fieldLink "SafeCode" (88 : Nat) "SafeCode" "fedSize" "I") ∈ lw_all := lw_g (lw_at lw_m4 47 rfl) rfl
theorem q1014 : (Jvm.Cond.fieldLink "SafeCode" (92 : Nat) "SafeCode" "fedEver" "I") ∈ lw_all := lw_g (lw_at lw_m4 48 rfl) rfl
theorem q1015 : (Jvm.Cond.fieldLink "SafeCode" (78 : Nat) "SafeCode" "text" "[B") ∈ lw_all := lw_g (lw_at lw_m4 49 rfl) rfl
theorem q1016 : (Jvm.Cond.fieldLink "SafeCode" (100 : Nat) "SafeCode" "textSize" "I") ∈ lw_all := lw_g (lw_at lw_m4 50 rfl) rfl
theorem q1017 : (Jvm.Cond.fieldLink "SafeCode" (81 : Nat) "SafeCode" "input" "[I") ∈ lw_all := lw_g (lw_at lw_m4 51 rfl) rfl
theorem q1018 : (Jvm.Cond.fieldLink "SafeCode" (222 : Nat) "SafeCode" "inputs" "I") ∈ lw_all := lw_g (lw_at lw_m4 52 rfl) rfl
theorem q1019 : (Jvm.Cond.fieldLink "SafeCode" (229 : Nat) "SafeCode" "outcome" "I") ∈ lw_all := lw_g (lw_at lw_m4 53 rfl) rfl
theorem q1020 : (Jvm.Cond.fieldLink "SafeCode" (232 : Nat) "SafeCode" "hasRun" "Z") ∈ lw_all := lw_g (lw_at lw_m4 54 rfl) rfl
theorem q1021 : (Jvm.Cond.laysFinal "SafeCode" "SafeCode" "fault" "LSafeCode$Fault;") ∈ lw_all := lw_g (lw_at lw_m4 55 rfl) rfl
theorem q1022 : (Jvm.Cond.soleField "SafeCode" "fault") ∈ lw_all := lw_g (lw_at lw_m4 56 rfl) rfl
theorem q1023 : (Jvm.Cond.laysFinal "SafeCode" "SafeCode" "tokens" "LSafeCode$Tokens;") ∈ lw_all := lw_g (lw_at lw_m4 57 rfl) rfl
theorem q1024 : (Jvm.Cond.soleField "SafeCode" "tokens") ∈ lw_all := lw_g (lw_at lw_m4 58 rfl) rfl
theorem q1025 : (Jvm.Cond.laysFinal "SafeCode" "SafeCode" "syntax" "LSafeCode$Syntax;") ∈ lw_all := lw_g (lw_at lw_m4 59 rfl) rfl
theorem q1026 : (Jvm.Cond.soleField "SafeCode" "syntax") ∈ lw_all := lw_g (lw_at lw_m4 60 rfl) rfl
theorem q1027 : (Jvm.Cond.laysFinal "SafeCode" "SafeCode" "loader" "LSafeCode$Loader;") ∈ lw_all := lw_g (lw_at lw_m4 61 rfl) rfl
theorem q1028 : (Jvm.Cond.soleField "SafeCode" "loader") ∈ lw_all := lw_g (lw_at lw_m4 62 rfl) rfl
theorem q1029 : (Jvm.Cond.laysFinal "SafeCode" "SafeCode" "checker" "LSafeCode$Checker;") ∈ lw_all := lw_g (lw_at lw_m4 63 rfl) rfl
theorem q1030 : (Jvm.Cond.soleField "SafeCode" "checker") ∈ lw_all := lw_g (lw_at lw_m4 64 rfl) rfl
theorem q1031 : (Jvm.Cond.laysFinal "SafeCode" "SafeCode" "analysis" "LSafeCode$Analysis;") ∈ lw_all := lw_g (lw_at lw_m4 65 rfl) rfl
theorem q1032 : (Jvm.Cond.soleField "SafeCode" "analysis") ∈ lw_all := lw_g (lw_at lw_m4 66 rfl) rfl
theorem q1033 : (Jvm.Cond.laysFinal "SafeCode" "SafeCode" "machine" "LSafeCode$Machine;") ∈ lw_all := lw_g (lw_at lw_m4 67 rfl) rfl
theorem q1034 : (Jvm.Cond.soleField "SafeCode" "machine") ∈ lw_all := lw_g (lw_at lw_m4 68 rfl) rfl
theorem q1035 : (Jvm.Cond.lays "SafeCode" "SafeCode" "program" "LSafeCode$Program;") ∈ lw_all := lw_g (lw_at lw_m4 69 rfl) rfl
theorem q1036 : (Jvm.Cond.soleField "SafeCode" "program") ∈ lw_all := lw_g (lw_at lw_m4 70 rfl) rfl
theorem q1037 : (Jvm.Cond.lays "SafeCode" "SafeCode" "spare" "LSafeCode$Program;") ∈ lw_all := lw_g (lw_at lw_m4 71 rfl) rfl
theorem q1038 : (Jvm.Cond.soleField "SafeCode" "spare") ∈ lw_all := lw_g (lw_at lw_m4 72 rfl) rfl
theorem q1039 : (Jvm.Cond.lays "SafeCode" "SafeCode" "hasProgram" "Z") ∈ lw_all := lw_g (lw_at lw_m4 73 rfl) rfl
theorem q1040 : (Jvm.Cond.soleField "SafeCode" "hasProgram") ∈ lw_all := lw_g (lw_at lw_m4 74 rfl) rfl
theorem q1041 : (Jvm.Cond.laysFinal "SafeCode" "SafeCode" "fed" "[B") ∈ lw_all := lw_g (lw_at lw_m4 75 rfl) rfl
theorem q1042 : (Jvm.Cond.soleField "SafeCode" "fed") ∈ lw_all := lw_g (lw_at lw_m4 76 rfl) rfl
theorem q1043 : (Jvm.Cond.lays "SafeCode" "SafeCode" "fedSize" "I") ∈ lw_all := lw_g (lw_at lw_m4 77 rfl) rfl
theorem q1044 : (Jvm.Cond.soleField "SafeCode" "fedSize") ∈ lw_all := lw_g (lw_at lw_m4 78 rfl) rfl
theorem q1045 : (Jvm.Cond.lays "SafeCode" "SafeCode" "fedEver" "I") ∈ lw_all := lw_g (lw_at lw_m4 79 rfl) rfl
theorem q1046 : (Jvm.Cond.soleField "SafeCode" "fedEver") ∈ lw_all := lw_g (lw_at lw_m4 80 rfl) rfl
theorem q1047 : (Jvm.Cond.laysFinal "SafeCode" "SafeCode" "text" "[B") ∈ lw_all := lw_g (lw_at lw_m4 81 rfl) rfl
theorem q1048 : (Jvm.Cond.soleField "SafeCode" "text") ∈ lw_all := lw_g (lw_at lw_m4 82 rfl) rfl
theorem q1049 : (Jvm.Cond.lays "SafeCode" "SafeCode" "textSize" "I") ∈ lw_all := lw_g (lw_at lw_m4 83 rfl) rfl
theorem q1050 : (Jvm.Cond.soleField "SafeCode" "textSize") ∈ lw_all := lw_g (lw_at lw_m4 84 rfl) rfl
theorem q1051 : (Jvm.Cond.laysFinal "SafeCode" "SafeCode" "input" "[I") ∈ lw_all := lw_g (lw_at lw_m4 85 rfl) rfl
theorem q1052 : (Jvm.Cond.soleField "SafeCode" "input") ∈ lw_all := lw_g (lw_at lw_m4 86 rfl) rfl
theorem q1053 : (Jvm.Cond.lays "SafeCode" "SafeCode" "inputs" "I") ∈ lw_all := lw_g (lw_at lw_m4 87 rfl) rfl
theorem q1054 : (Jvm.Cond.soleField "SafeCode" "inputs") ∈ lw_all := lw_g (lw_at lw_m4 88 rfl) rfl
theorem q1055 : (Jvm.Cond.lays "SafeCode" "SafeCode" "outcome" "I") ∈ lw_all := lw_g (lw_at lw_m4 89 rfl) rfl
theorem q1056 : (Jvm.Cond.soleField "SafeCode" "outcome") ∈ lw_all := lw_g (lw_at lw_m4 90 rfl) rfl
theorem q1057 : (Jvm.Cond.lays "SafeCode" "SafeCode" "hasRun" "Z") ∈ lw_all := lw_g (lw_at lw_m4 91 rfl) rfl
theorem q1058 : (Jvm.Cond.soleField "SafeCode" "hasRun") ∈ lw_all := lw_g (lw_at lw_m4 92 rfl) rfl
theorem q1059 : (Jvm.Cond.superclass "SafeCode" "java/lang/Object") ∈ lw_all := lw_g (lw_at lw_m4 93 rfl) rfl
theorem q1062 : (Jvm.Cond.instanceMethod ({ cls := "SafeCode", name := "feed", desc := "(IIIII)I" } : Jvm.MethodName)) ∈ lw_all := lw_g (lw_at lw_m4 96 rfl) rfl
theorem q1063 : (Jvm.Cond.selects "SafeCode" ({ cls := "SafeCode", name := "feed", desc := "(IIIII)I" } : Jvm.MethodName) ({ cls := "SafeCode", name := "feed", desc := "(IIIII)I" } : Jvm.MethodName)) ∈ lw_all := lw_g (lw_at lw_m4 97 rfl) rfl
theorem q1064 : (Jvm.Cond.code ({ cls := "SafeCode", name := "feed", desc := "(IIIII)I" } : Jvm.MethodName) prog_1_method_2_code (6 : Nat) (Option.some Jvm.ClassFile.FieldType.int)) ∈ lw_all := lw_g (lw_at lw_m4 98 rfl) rfl
theorem q1065 : (Jvm.Cond.constant "SafeCode" (95 : Nat) (65536 : Int32)) ∈ lw_all := lw_g (lw_at lw_m4 99 rfl) rfl
theorem q1066 : (Jvm.Cond.methodLink "SafeCode" (96 : Nat) ({ cls := "SafeCode", name := "put", desc := "(I)V" } : Jvm.MethodName)) ∈ lw_all := lw_g (lw_at lw_m4 100 rfl) rfl
theorem q1067 : (Jvm.Cond.privateMethod ({ cls := "SafeCode", name := "put", desc := "(I)V" } : Jvm.MethodName)) ∈ lw_tbl := lw_at lw_m4 101 rfl
theorem q1068 : (Jvm.Cond.instanceMethod ({ cls := "SafeCode", name := "put", desc := "(I)V" } : Jvm.MethodName)) ∈ lw_all := lw_g (lw_at lw_m4 102 rfl) rfl
theorem q1069 : (Jvm.Cond.code ({ cls := "SafeCode", name := "put", desc := "(I)V" } : Jvm.MethodName) prog_1_method_3_code (3 : Nat) (Option.none : Option Jvm.ClassFile.FieldType)) ∈ lw_all := lw_g (lw_at lw_m4 103 rfl) rfl
theorem q1071 : (Jvm.Cond.instanceMethod ({ cls := "SafeCode", name := "end", desc := "(I)Z" } : Jvm.MethodName)) ∈ lw_all := lw_g (lw_at lw_m4 105 rfl) rfl
theorem q1072 : (Jvm.Cond.selects "SafeCode" ({ cls := "SafeCode", name := "end", desc := "(I)Z" } : Jvm.MethodName) ({ cls := "SafeCode", name := "end", desc := "(I)Z" } : Jvm.MethodName)) ∈ lw_all := lw_g (lw_at lw_m4 106 rfl) rfl
theorem q1073 : (Jvm.Cond.code ({ cls := "SafeCode", name := "end", desc := "(I)Z" } : Jvm.MethodName) prog_1_method_4_code (3 : Nat) (Option.some Jvm.ClassFile.FieldType.boolean)) ∈ lw_all := lw_g (lw_at lw_m4 107 rfl) rfl
theorem q1075 : (Jvm.Cond.instanceMethod ({ cls := "SafeCode", name := "load", desc := "()I" } : Jvm.MethodName)) ∈ lw_all := lw_g (lw_at lw_m4 109 rfl) rfl
theorem q1076 : (Jvm.Cond.selects "SafeCode" ({ cls := "SafeCode", name := "load", desc := "()I" } : Jvm.MethodName) ({ cls := "SafeCode", name := "load", desc := "()I" } : Jvm.MethodName)) ∈ lw_all := lw_g (lw_at lw_m4 110 rfl) rfl
theorem q1077 : (Jvm.Cond.codeWith ({ cls := "SafeCode", name := "load", desc := "()I" } : Jvm.MethodName) prog_1_method_5_code (3 : Nat) (Option.some Jvm.ClassFile.FieldType.int) [((17 : Nat), (58 : Nat), (61 : Nat), (117 : Nat))]) ∈ lw_all := lw_g (lw_at lw_m4 111 rfl) rfl
theorem q1078 : (Jvm.Cond.classLink "SafeCode" (117 : Nat) "java/lang/IllegalStateException") ∈ lw_all := lw_g (lw_at lw_m4 112 rfl) rfl
theorem q1079 : (Jvm.Cond.methodLink "SafeCode" (103 : Nat) ({ cls := "SafeCode$Tokens", name := "cut", desc := "([BI)V" } : Jvm.MethodName)) ∈ lw_all := lw_g (lw_at lw_m4 113 rfl) rfl
theorem q1132 : (Jvm.Cond.methodLink "SafeCode" (107 : Nat) ({ cls := "SafeCode$Syntax", name := "read", desc := "()V" } : Jvm.MethodName)) ∈ lw_all := lw_g (lw_at lw_m4 166 rfl) rfl
theorem q1287 : (Jvm.Cond.methodLink "SafeCode" (110 : Nat) ({ cls := "SafeCode$Loader", name := "load", desc := "(LSafeCode$Program;)V" } : Jvm.MethodName)) ∈ lw_all := lw_g (lw_at lw_m5 81 rfl) rfl
theorem q1431 : (Jvm.Cond.methodLink "SafeCode" (114 : Nat) ({ cls := "SafeCode$Checker", name := "check", desc := "(LSafeCode$Program;)V" } : Jvm.MethodName)) ∈ lw_all := lw_g (lw_at lw_m5 225 rfl) rfl
theorem q1534 : (Jvm.Cond.methodLink "SafeCode" (126 : Nat) ({ cls := "SafeCode$Analysis", name := "seek", desc := "(LSafeCode$Program;)V" } : Jvm.MethodName)) ∈ lw_all := lw_g (lw_at lw_m6 88 rfl) rfl
theorem q1876 : (Jvm.Cond.instanceMethod ({ cls := "SafeCode", name := "faultAt", desc := "()I" } : Jvm.MethodName)) ∈ lw_all := lw_g (lw_at lw_m7 190 rfl) rfl
theorem q1877 : (Jvm.Cond.selects "SafeCode" ({ cls := "SafeCode", name := "faultAt", desc := "()I" } : Jvm.MethodName) ({ cls := "SafeCode", name := "faultAt", desc := "()I" } : Jvm.MethodName)) ∈ lw_all := lw_g (lw_at lw_m7 191 rfl) rfl
theorem q1878 : (Jvm.Cond.code ({ cls := "SafeCode", name := "faultAt", desc := "()I" } : Jvm.MethodName) prog_1_method_6_code (1 : Nat) (Option.some Jvm.ClassFile.FieldType.int)) ∈ lw_all := lw_g (lw_at lw_m7 192 rfl) rfl
theorem q1880 : (Jvm.Cond.instanceMethod ({ cls := "SafeCode", name := "size", desc := "(I)I" } : Jvm.MethodName)) ∈ lw_all := lw_g (lw_at lw_m7 194 rfl) rfl
theorem q1881 : (Jvm.Cond.selects "SafeCode" ({ cls := "SafeCode", name := "size", desc := "(I)I" } : Jvm.MethodName) ({ cls := "SafeCode", name := "size", desc := "(I)I" } : Jvm.MethodName)) ∈ lw_all := lw_g (lw_at lw_m7 195 rfl) rfl
theorem q1882 : (Jvm.Cond.code ({ cls := "SafeCode", name := "size", desc := "(I)I" } : Jvm.MethodName) prog_1_method_7_code (2 : Nat) (Option.some Jvm.ClassFile.FieldType.int)) ∈ lw_all := lw_g (lw_at lw_m7 196 rfl) rfl
theorem q1884 : (Jvm.Cond.instanceMethod ({ cls := "SafeCode", name := "errors", desc := "(I)I" } : Jvm.MethodName)) ∈ lw_all := lw_g (lw_at lw_m7 198 rfl) rfl
theorem q1885 : (Jvm.Cond.selects "SafeCode" ({ cls := "SafeCode", name := "errors", desc := "(I)I" } : Jvm.MethodName) ({ cls := "SafeCode", name := "errors", desc := "(I)I" } : Jvm.MethodName)) ∈ lw_all := lw_g (lw_at lw_m7 199 rfl) rfl
theorem q1886 : (Jvm.Cond.code ({ cls := "SafeCode", name := "errors", desc := "(I)I" } : Jvm.MethodName) prog_1_method_9_code (2 : Nat) (Option.some Jvm.ClassFile.FieldType.int)) ∈ lw_all := lw_g (lw_at lw_m7 200 rfl) rfl
theorem q1887 : (Jvm.Cond.methodLink "SafeCode" (151 : Nat) ({ cls := "SafeCode", name := "isCode", desc := "(I)Z" } : Jvm.MethodName)) ∈ lw_all := lw_g (lw_at lw_m7 201 rfl) rfl
theorem q1888 : (Jvm.Cond.privateMethod ({ cls := "SafeCode", name := "isCode", desc := "(I)Z" } : Jvm.MethodName)) ∈ lw_tbl := lw_at lw_m7 202 rfl
theorem q1889 : (Jvm.Cond.instanceMethod ({ cls := "SafeCode", name := "isCode", desc := "(I)Z" } : Jvm.MethodName)) ∈ lw_all := lw_g (lw_at lw_m7 203 rfl) rfl
theorem q1890 : (Jvm.Cond.code ({ cls := "SafeCode", name := "isCode", desc := "(I)Z" } : Jvm.MethodName) prog_1_method_8_code (2 : Nat) (Option.some Jvm.ClassFile.FieldType.boolean)) ∈ lw_all := lw_g (lw_at lw_m7 204 rfl) rfl
theorem q1891 : (Jvm.Cond.methodLink "SafeCode" (155 : Nat) ({ cls := "SafeCode$Analysis", name := "errorsOf", desc := "(I)I" } : Jvm.MethodName)) ∈ lw_all := lw_g (lw_at lw_m7 205 rfl) rfl
theorem q1896 : (Jvm.Cond.instanceMethod ({ cls := "SafeCode", name := "escapes", desc := "(I)J" } : Jvm.MethodName)) ∈ lw_all := lw_g (lw_at lw_m7 210 rfl) rfl
theorem q1897 : (Jvm.Cond.selects "SafeCode" ({ cls := "SafeCode", name := "escapes", desc := "(I)J" } : Jvm.MethodName) ({ cls := "SafeCode", name := "escapes", desc := "(I)J" } : Jvm.MethodName)) ∈ lw_all := lw_g (lw_at lw_m7 211 rfl) rfl
theorem q1898 : (Jvm.Cond.code ({ cls := "SafeCode", name := "escapes", desc := "(I)J" } : Jvm.MethodName) prog_1_method_10_code (2 : Nat) (Option.some Jvm.ClassFile.FieldType.long)) ∈ lw_all := lw_g (lw_at lw_m7 212 rfl) rfl
theorem q1900 : (Jvm.Cond.instanceMethod ({ cls := "SafeCode", name := "ends", desc := "()J" } : Jvm.MethodName)) ∈ lw_all := lw_g (lw_at lw_m7 214 rfl) rfl
theorem q1901 : (Jvm.Cond.selects "SafeCode" ({ cls := "SafeCode", name := "ends", desc := "()J" } : Jvm.MethodName) ({ cls := "SafeCode", name := "ends", desc := "()J" } : Jvm.MethodName)) ∈ lw_all := lw_g (lw_at lw_m7 215 rfl) rfl
theorem q1902 : (Jvm.Cond.code ({ cls := "SafeCode", name := "ends", desc := "()J" } : Jvm.MethodName) prog_1_method_11_code (1 : Nat) (Option.some Jvm.ClassFile.FieldType.long)) ∈ lw_all := lw_g (lw_at lw_m7 216 rfl) rfl
theorem q1904 : (Jvm.Cond.instanceMethod ({ cls := "SafeCode", name := "kind", desc := "(II)I" } : Jvm.MethodName)) ∈ lw_all := lw_g (lw_at lw_m7 218 rfl) rfl
theorem q1905 : (Jvm.Cond.selects "SafeCode" ({ cls := "SafeCode", name := "kind", desc := "(II)I" } : Jvm.MethodName) ({ cls := "SafeCode", name := "kind", desc := "(II)I" } : Jvm.MethodName)) ∈ lw_all := lw_g (lw_at lw_m7 219 rfl) rfl
theorem q1906 : (Jvm.Cond.code ({ cls := "SafeCode", name := "kind", desc := "(II)I" } : Jvm.MethodName) prog_1_method_13_code (3 : Nat) (Option.some Jvm.ClassFile.FieldType.int)) ∈ lw_all := lw_g (lw_at lw_m7 220 rfl) rfl
theorem q1907 : (Jvm.Cond.methodLink "SafeCode" (176 : Nat) ({ cls := "SafeCode", name := "isSlot", desc := "(II)Z" } : Jvm.MethodName)) ∈ lw_all := lw_g (lw_at lw_m7 221 rfl) rfl
theorem q1908 : (Jvm.Cond.privateMethod ({ cls := "SafeCode", name := "isSlot", desc := "(II)Z" } : Jvm.MethodName)) ∈ lw_tbl := lw_at lw_m7 222 rfl
theorem q1909 : (Jvm.Cond.instanceMethod ({ cls := "SafeCode", name := "isSlot", desc := "(II)Z" } : Jvm.MethodName)) ∈ lw_all := lw_g (lw_at lw_m7 223 rfl) rfl
theorem q1910 : (Jvm.Cond.code ({ cls := "SafeCode", name := "isSlot", desc := "(II)Z" } : Jvm.MethodName) prog_1_method_12_code (3 : Nat) (Option.some Jvm.ClassFile.FieldType.boolean)) ∈ lw_all := lw_g (lw_at lw_m7 224 rfl) rfl
theorem q1912 : (Jvm.Cond.instanceMethod ({ cls := "SafeCode", name := "low", desc := "(II)I" } : Jvm.MethodName)) ∈ lw_all := lw_g (lw_at lw_m7 226 rfl) rfl
theorem q1913 : (Jvm.Cond.selects "SafeCode" ({ cls := "SafeCode", name := "low", desc := "(II)I" } : Jvm.MethodName) ({ cls := "SafeCode", name := "low", desc := "(II)I" } : Jvm.MethodName)) ∈ lw_all := lw_g (lw_at lw_m7 227 rfl) rfl
theorem q1914 : (Jvm.Cond.code ({ cls := "SafeCode", name := "low", desc := "(II)I" } : Jvm.MethodName) prog_1_method_14_code (3 : Nat) (Option.some Jvm.ClassFile.FieldType.int)) ∈ lw_all := lw_g (lw_at lw_m7 228 rfl) rfl
theorem q1915 : (Jvm.Cond.methodLink "SafeCode" (189 : Nat) ({ cls := "SafeCode", name := "kind", desc := "(II)I" } : Jvm.MethodName)) ∈ lw_all := lw_g (lw_at lw_m7 229 rfl) rfl
theorem q1917 : (Jvm.Cond.instanceMethod ({ cls := "SafeCode", name := "high", desc := "(II)I" } : Jvm.MethodName)) ∈ lw_all := lw_g (lw_at lw_m7 231 rfl) rfl
theorem q1918 : (Jvm.Cond.selects "SafeCode" ({ cls := "SafeCode", name := "high", desc := "(II)I" } : Jvm.MethodName) ({ cls := "SafeCode", name := "high", desc := "(II)I" } : Jvm.MethodName)) ∈ lw_all := lw_g (lw_at lw_m7 232 rfl) rfl
theorem q1919 : (Jvm.Cond.code ({ cls := "SafeCode", name := "high", desc := "(II)I" } : Jvm.MethodName) prog_1_method_15_code (3 : Nat) (Option.some Jvm.ClassFile.FieldType.int)) ∈ lw_all := lw_g (lw_at lw_m7 233 rfl) rfl
theorem q1921 : (Jvm.Cond.instanceMethod ({ cls := "SafeCode", name := "sites", desc := "(II)J" } : Jvm.MethodName)) ∈ lw_all := lw_g (lw_at lw_m7 235 rfl) rfl
theorem q1922 : (Jvm.Cond.selects "SafeCode" ({ cls := "SafeCode", name := "sites", desc := "(II)J" } : Jvm.MethodName) ({ cls := "SafeCode", name := "sites", desc := "(II)J" } : Jvm.MethodName)) ∈ lw_all := lw_g (lw_at lw_m7 236 rfl) rfl
theorem q1923 : (Jvm.Cond.code ({ cls := "SafeCode", name := "sites", desc := "(II)J" } : Jvm.MethodName) prog_1_method_16_code (3 : Nat) (Option.some Jvm.ClassFile.FieldType.long)) ∈ lw_all := lw_g (lw_at lw_m7 237 rfl) rfl
theorem q1925 : (Jvm.Cond.instanceMethod ({ cls := "SafeCode", name := "fact", desc := "(III)I" } : Jvm.MethodName)) ∈ lw_all := lw_g (lw_at lw_m7 239 rfl) rfl
theorem q1926 : (Jvm.Cond.selects "SafeCode" ({ cls := "SafeCode", name := "fact", desc := "(III)I" } : Jvm.MethodName) ({ cls := "SafeCode", name := "fact", desc := "(III)I" } : Jvm.MethodName)) ∈ lw_all := lw_g (lw_at lw_m8 0 rfl) rfl
theorem q1927 : (Jvm.Cond.code ({ cls := "SafeCode", name := "fact", desc := "(III)I" } : Jvm.MethodName) prog_1_method_17_code (7 : Nat) (Option.some Jvm.ClassFile.FieldType.int)) ∈ lw_all := lw_g (lw_at lw_m8 1 rfl) rfl
theorem q1929 : (Jvm.Cond.instanceMethod ({ cls := "SafeCode", name := "lengths", desc := "(II)I" } : Jvm.MethodName)) ∈ lw_all := lw_g (lw_at lw_m8 3 rfl) rfl
theorem q1930 : (Jvm.Cond.selects "SafeCode" ({ cls := "SafeCode", name := "lengths", desc := "(II)I" } : Jvm.MethodName) ({ cls := "SafeCode", name := "lengths", desc := "(II)I" } : Jvm.MethodName)) ∈ lw_all := lw_g (lw_at lw_m8 4 rfl) rfl
theorem q1931 : (Jvm.Cond.code ({ cls := "SafeCode", name := "lengths", desc := "(II)I" } : Jvm.MethodName) prog_1_method_18_code (3 : Nat) (Option.some Jvm.ClassFile.FieldType.int)) ∈ lw_all := lw_g (lw_at lw_m8 5 rfl) rfl
theorem q1933 : (Jvm.Cond.instanceMethod ({ cls := "SafeCode", name := "input", desc := "(I)Z" } : Jvm.MethodName)) ∈ lw_all := lw_g (lw_at lw_m8 7 rfl) rfl
theorem q1934 : (Jvm.Cond.selects "SafeCode" ({ cls := "SafeCode", name := "input", desc := "(I)Z" } : Jvm.MethodName) ({ cls := "SafeCode", name := "input", desc := "(I)Z" } : Jvm.MethodName)) ∈ lw_all := lw_g (lw_at lw_m8 8 rfl) rfl
theorem q1935 : (Jvm.Cond.code ({ cls := "SafeCode", name := "input", desc := "(I)Z" } : Jvm.MethodName) prog_1_method_19_code (2 : Nat) (Option.some Jvm.ClassFile.FieldType.boolean)) ∈ lw_all := lw_g (lw_at lw_m8 9 rfl) rfl
theorem q1937 : (Jvm.Cond.instanceMethod ({ cls := "SafeCode", name := "run", desc := "(I)I" } : Jvm.MethodName)) ∈ lw_all := lw_g (lw_at lw_m8 11 rfl) rfl
theorem q1938 : (Jvm.Cond.selects "SafeCode" ({ cls := "SafeCode", name := "run", desc := "(I)I" } : Jvm.MethodName) ({ cls := "SafeCode", name := "run", desc := "(I)I" } : Jvm.MethodName)) ∈ lw_all := lw_g (lw_at lw_m8 12 rfl) rfl
theorem q1939 : (Jvm.Cond.code ({ cls := "SafeCode", name := "run", desc := "(I)I" } : Jvm.MethodName) prog_1_method_20_code (2 : Nat) (Option.some Jvm.ClassFile.FieldType.int)) ∈ lw_all := lw_g (lw_at lw_m8 13 rfl) rfl
theorem q1940 : (Jvm.Cond.methodLink "SafeCode" (225 : Nat) ({ cls := "SafeCode$Machine", name := "run", desc := "(LSafeCode$Program;[III)I" } : Jvm.MethodName)) ∈ lw_all := lw_g (lw_at lw_m8 14 rfl) rfl
theorem q2039 : (Jvm.Cond.instanceMethod ({ cls := "SafeCode", name := "steps", desc := "()I" } : Jvm.MethodName)) ∈ lw_all := lw_g (lw_at lw_m8 113 rfl) rfl
theorem q2040 : (Jvm.Cond.selects "SafeCode" ({ cls := "SafeCode", name := "steps", desc := "()I" } : Jvm.MethodName) ({ cls := "SafeCode", name := "steps", desc := "()I" } : Jvm.MethodName)) ∈ lw_all := lw_g (lw_at lw_m8 114 rfl) rfl
theorem q2041 : (Jvm.Cond.code ({ cls := "SafeCode", name := "steps", desc := "()I" } : Jvm.MethodName) prog_1_method_21_code (1 : Nat) (Option.some Jvm.ClassFile.FieldType.int)) ∈ lw_all := lw_g (lw_at lw_m8 115 rfl) rfl
theorem q2043 : (Jvm.Cond.instanceMethod ({ cls := "SafeCode", name := "place", desc := "()I" } : Jvm.MethodName)) ∈ lw_all := lw_g (lw_at lw_m8 117 rfl) rfl
theorem q2044 : (Jvm.Cond.selects "SafeCode" ({ cls := "SafeCode", name := "place", desc := "()I" } : Jvm.MethodName) ({ cls := "SafeCode", name := "place", desc := "()I" } : Jvm.MethodName)) ∈ lw_all := lw_g (lw_at lw_m8 118 rfl) rfl
theorem q2045 : (Jvm.Cond.code ({ cls := "SafeCode", name := "place", desc := "()I" } : Jvm.MethodName) prog_1_method_22_code (1 : Nat) (Option.some Jvm.ClassFile.FieldType.int)) ∈ lw_all := lw_g (lw_at lw_m8 119 rfl) rfl
theorem q2047 : (Jvm.Cond.instanceMethod ({ cls := "SafeCode", name := "thrown", desc := "()I" } : Jvm.MethodName)) ∈ lw_all := lw_g (lw_at lw_m8 121 rfl) rfl
theorem q2048 : (Jvm.Cond.selects "SafeCode" ({ cls := "SafeCode", name := "thrown", desc := "()I" } : Jvm.MethodName) ({ cls := "SafeCode", name := "thrown", desc := "()I" } : Jvm.MethodName)) ∈ lw_all := lw_g (lw_at lw_m8 122 rfl) rfl
theorem q2049 : (Jvm.Cond.code ({ cls := "SafeCode", name := "thrown", desc := "()I" } : Jvm.MethodName) prog_1_method_23_code (1 : Nat) (Option.some Jvm.ClassFile.FieldType.int)) ∈ lw_all := lw_g (lw_at lw_m8 123 rfl) rfl
theorem q2051 : (Jvm.Cond.instanceMethod ({ cls := "SafeCode", name := "written", desc := "()I" } : Jvm.MethodName)) ∈ lw_all := lw_g (lw_at lw_m8 125 rfl) rfl
theorem q2052 : (Jvm.Cond.selects "SafeCode" ({ cls := "SafeCode", name := "written", desc := "()I" } : Jvm.MethodName) ({ cls := "SafeCode", name := "written", desc := "()I" } : Jvm.MethodName)) ∈ lw_all := lw_g (lw_at lw_m8 126 rfl) rfl
theorem q2053 : (Jvm.Cond.code ({ cls := "SafeCode", name := "written", desc := "()I" } : Jvm.MethodName) prog_1_method_24_code (1 : Nat) (Option.some Jvm.ClassFile.FieldType.int)) ∈ lw_all := lw_g (lw_at lw_m8 127 rfl) rfl
theorem q2055 : (Jvm.Cond.instanceMethod ({ cls := "SafeCode", name := "out", desc := "(I)I" } : Jvm.MethodName)) ∈ lw_all := lw_g (lw_at lw_m8 129 rfl) rfl
theorem q2056 : (Jvm.Cond.selects "SafeCode" ({ cls := "SafeCode", name := "out", desc := "(I)I" } : Jvm.MethodName) ({ cls := "SafeCode", name := "out", desc := "(I)I" } : Jvm.MethodName)) ∈ lw_all := lw_g (lw_at lw_m8 130 rfl) rfl
theorem q2057 : (Jvm.Cond.code ({ cls := "SafeCode", name := "out", desc := "(I)I" } : Jvm.MethodName) prog_1_method_25_code (2 : Nat) (Option.some Jvm.ClassFile.FieldType.int)) ∈ lw_all := lw_g (lw_at lw_m8 131 rfl) rfl
theorem q2058 : (Jvm.Cond.methodLink "SafeCode" (244 : Nat) ({ cls := "java/lang/Math", name := "min", desc := "(II)I" } : Jvm.MethodName)) ∈ lw_all := lw_g (lw_at lw_m8 132 rfl) rfl
theorem q2060 : (Jvm.Cond.instanceMethod ({ cls := "SafeCode", name := "strays", desc := "()I" } : Jvm.MethodName)) ∈ lw_all := lw_g (lw_at lw_m8 134 rfl) rfl
theorem q2061 : (Jvm.Cond.selects "SafeCode" ({ cls := "SafeCode", name := "strays", desc := "()I" } : Jvm.MethodName) ({ cls := "SafeCode", name := "strays", desc := "()I" } : Jvm.MethodName)) ∈ lw_all := lw_g (lw_at lw_m8 135 rfl) rfl
theorem q2062 : (Jvm.Cond.code ({ cls := "SafeCode", name := "strays", desc := "()I" } : Jvm.MethodName) prog_1_method_26_code (1 : Nat) (Option.some Jvm.ClassFile.FieldType.int)) ∈ lw_all := lw_g (lw_at lw_m8 136 rfl) rfl
theorem in_X0 : ∀ w ∈ wsX00, w ∈ lw_all := lw_in wsX00 [1021, 1023, 1025, 1027, 1029, 1031, 1033, 1035, 1037, 1039, 1041, 1043, 1045, 1047, 1049, 1051, 1053, 1055, 1057] (by decide +kernel) (by decide +kernel)
/-! SafeCode$Fault -/
def RX1 : String := "SafeCode$Fault"
def TX1 : u_T := fun k => match k with
  | 0 => ("SafeCode$Fault", "stop", "Ljava/lang/IllegalStateException;", true)
  | 1 => ("SafeCode$Fault", "number", "I", false)
  | _ => ("SafeCode$Fault", "place", "I", false)
def tyX1 : Nat → FieldType := fun k => match k with
  | 0 => .object "java/lang/IllegalStateException"
  | 1 => .int
  | _ => .int
abbrev wsX10 : List Cond := u_ws RX1 TX1 3
theorem nmX1 : ∀ a, a < 3 → ∀ b, b < 3 → a ≠ b → (TX1 a).2.1 ≠ (TX1 b).2.1 := by decide +kernel
theorem tyX1_ok : ∀ k, k < 3 → parseFieldDescriptor (TX1 k).2.2.1 = some (tyX1 k) := by decide +kernel
abbrev cX1_init : ByteArray := prog_5_method_1_code
def yX1_init : MethodName := ⟨RX1, "<init>", "()V"⟩
abbrev cX1_begin : ByteArray := prog_5_method_2_code
def yX1_begin : MethodName := ⟨RX1, "begin", "()V"⟩
abbrev cX1_at : ByteArray := prog_5_method_3_code
def yX1_at : MethodName := ⟨RX1, "at", "(II)Ljava/lang/IllegalStateException;"⟩
theorem q248 : (Jvm.Cond.initialized "SafeCode$Fault") ∈ lw_all := lw_g (lw_at lw_m1 2 rfl) rfl
theorem q284 : (Jvm.Cond.instantiable "SafeCode$Fault" (3 : Nat)) ∈ lw_all := lw_g (lw_at lw_m1 38 rfl) rfl
theorem q286 : (Jvm.Cond.instanceMethod ({ cls := "SafeCode$Fault", name := "<init>", desc := "()V" } : Jvm.MethodName)) ∈ lw_all := lw_g (lw_at lw_m1 40 rfl) rfl
theorem q287 : (Jvm.Cond.code ({ cls := "SafeCode$Fault", name := "<init>", desc := "()V" } : Jvm.MethodName) prog_5_method_1_code (1 : Nat) (Option.none : Option Jvm.ClassFile.FieldType)) ∈ lw_all := lw_g (lw_at lw_m1 41 rfl) rfl
theorem q288 : (Jvm.Cond.methodLink "SafeCode$Fault" (1 : Nat) ({ cls := "java/lang/Object", name := "<init>", desc := "()V" } : Jvm.MethodName)) ∈ lw_all := lw_g (lw_at lw_m1 42 rfl) rfl
theorem q289 : (Jvm.Cond.classLink "SafeCode$Fault" (7 : Nat) "java/lang/IllegalStateException") ∈ lw_all := lw_g (lw_at lw_m1 43 rfl) rfl
theorem q328 : (Jvm.Cond.methodLink "SafeCode$Fault" (9 : Nat) ({ cls := "java/lang/IllegalStateException", name := "<init>", desc := "()V" } : Jvm.MethodName)) ∈ lw_all := lw_g (lw_at lw_m1 82 rfl) rfl
theorem q350 : (Jvm.Cond.fieldLink "SafeCode$Fault" (10 : Nat) "SafeCode$Fault" "stop" "Ljava/lang/IllegalStateException;") ∈ lw_all := lw_g (lw_at lw_m1 104 rfl) rfl
theorem q351 : (Jvm.Cond.fieldLink "SafeCode$Fault" (16 : Nat) "SafeCode$Fault" "number" "I") ∈ lw_all := lw_g (lw_at lw_m1 105 rfl) rfl
theorem q353 : (Jvm.Cond.fieldLink "SafeCode$Fault" (20 : Nat) "SafeCode$Fault" "place" "I") ∈ lw_all := lw_g (lw_at lw_m1 107 rfl) rfl
theorem q355 : (Jvm.Cond.laysFinal "SafeCode$Fault" "SafeCode$Fault" "stop" "Ljava/lang/IllegalStateException;") ∈ lw_all := lw_g (lw_at lw_m1 109 rfl) rfl
theorem q356 : (Jvm.Cond.soleField "SafeCode$Fault" "stop") ∈ lw_all := lw_g (lw_at lw_m1 110 rfl) rfl
theorem q357 : (Jvm.Cond.lays "SafeCode$Fault" "SafeCode$Fault" "number" "I") ∈ lw_all := lw_g (lw_at lw_m1 111 rfl) rfl
theorem q358 : (Jvm.Cond.soleField "SafeCode$Fault" "number") ∈ lw_all := lw_g (lw_at lw_m1 112 rfl) rfl
theorem q359 : (Jvm.Cond.lays "SafeCode$Fault" "SafeCode$Fault" "place" "I") ∈ lw_all := lw_g (lw_at lw_m1 113 rfl) rfl
theorem q360 : (Jvm.Cond.soleField "SafeCode$Fault" "place") ∈ lw_all := lw_g (lw_at lw_m1 114 rfl) rfl
theorem q361 : (Jvm.Cond.superclass "SafeCode$Fault" "java/lang/Object") ∈ lw_all := lw_g (lw_at lw_m1 115 rfl) rfl
theorem q999 : (Jvm.Cond.instanceMethod ({ cls := "SafeCode$Fault", name := "begin", desc := "()V" } : Jvm.MethodName)) ∈ lw_all := lw_g (lw_at lw_m4 33 rfl) rfl
theorem q1000 : (Jvm.Cond.selects "SafeCode$Fault" ({ cls := "SafeCode$Fault", name := "begin", desc := "()V" } : Jvm.MethodName) ({ cls := "SafeCode$Fault", name := "begin", desc := "()V" } : Jvm.MethodName)) ∈ lw_all := lw_g (lw_at lw_m4 34 rfl) rfl
theorem q1001 : (Jvm.Cond.code ({ cls := "SafeCode$Fault", name := "begin", desc := "()V" } : Jvm.MethodName) prog_5_method_2_code (1 : Nat) (Option.none : Option Jvm.ClassFile.FieldType)) ∈ lw_all := lw_g (lw_at lw_m4 35 rfl) rfl
theorem q1095 : (Jvm.Cond.instanceMethod ({ cls := "SafeCode$Fault", name := "at", desc := "(II)Ljava/lang/IllegalStateException;" } : Jvm.MethodName)) ∈ lw_all := lw_g (lw_at lw_m4 129 rfl) rfl
theorem q1096 : (Jvm.Cond.selects "SafeCode$Fault" ({ cls := "SafeCode$Fault", name := "at", desc := "(II)Ljava/lang/IllegalStateException;" } : Jvm.MethodName) ({ cls := "SafeCode$Fault", name := "at", desc := "(II)Ljava/lang/IllegalStateException;" } : Jvm.MethodName)) ∈ lw_all := lw_g (lw_at lw_m4 130 rfl) rfl
theorem q1097 : (Jvm.Cond.code ({ cls := "SafeCode$Fault", name := "at", desc := "(II)Ljava/lang/IllegalStateException;" } : Jvm.MethodName) prog_5_method_3_code (3 : Nat) (Option.some (Jvm.ClassFile.FieldType.object "java/lang/IllegalStateException"))) ∈ lw_all := lw_g (lw_at lw_m4 131 rfl) rfl
theorem in_X1 : ∀ w ∈ wsX10, w ∈ lw_all := lw_in wsX10 [355, 357, 359] (by decide +kernel) (by decide +kernel)
/-! SafeCode$Tokens -/
def RX2 : String := "SafeCode$Tokens"
def TX2 : u_T := fun k => match k with
  | 0 => ("SafeCode$Tokens", "fault", "LSafeCode$Fault;", true)
  | 1 => ("SafeCode$Tokens", "text", "[B", false)
  | 2 => ("SafeCode$Tokens", "from", "LSafeCode$Ints;", true)
  | _ => ("SafeCode$Tokens", "to", "LSafeCode$Ints;", true)
def tyX2 : Nat → FieldType := fun k => match k with
  | 0 => .object "SafeCode$Fault"
  | 1 => .array .byte
  | 2 => .object "SafeCode$Ints"
  | _ => .object "SafeCode$Ints"
abbrev wsX20 : List Cond := u_ws RX2 TX2 4
theorem nmX2 : ∀ a, a < 4 → ∀ b, b < 4 → a ≠ b → (TX2 a).2.1 ≠ (TX2 b).2.1 := by decide +kernel
theorem tyX2_ok : ∀ k, k < 4 → parseFieldDescriptor (TX2 k).2.2.1 = some (tyX2 k) := by decide +kernel
abbrev cX2_init : ByteArray := prog_13_method_1_code
def yX2_init : MethodName := ⟨RX2, "<init>", "(LSafeCode$Fault;)V"⟩
abbrev cX2_cut : ByteArray := prog_13_method_6_code
def yX2_cut : MethodName := ⟨RX2, "cut", "([BI)V"⟩
abbrev cX2_isRight : ByteArray := prog_13_method_5_code
def yX2_isRight : MethodName := ⟨RX2, "isRight", "(I)Z"⟩
abbrev cX2_size : ByteArray := prog_13_method_2_code
def yX2_size : MethodName := ⟨RX2, "size", "()I"⟩
abbrev cX2_lineEnd : ByteArray := prog_13_method_7_code
def yX2_lineEnd : MethodName := ⟨RX2, "lineEnd", "(II)I"⟩
abbrev cX2_isBlank : ByteArray := prog_13_method_3_code
def yX2_isBlank : MethodName := ⟨RX2, "isBlank", "(I)Z"⟩
abbrev cX2_isMark : ByteArray := prog_13_method_4_code
def yX2_isMark : MethodName := ⟨RX2, "isMark", "(I)Z"⟩
abbrev cX2_wordEnd : ByteArray := prog_13_method_8_code
def yX2_wordEnd : MethodName := ⟨RX2, "wordEnd", "(II)I"⟩
abbrev cX2_is : ByteArray := prog_13_method_9_code
def yX2_is : MethodName := ⟨RX2, "is", "(ILjava/lang/String;)Z"⟩
abbrev cX2_isAt : ByteArray := prog_13_method_10_code
def yX2_isAt : MethodName := ⟨RX2, "isAt", "(IILjava/lang/String;II)Z"⟩
abbrev cX2_isClassName : ByteArray := prog_13_method_16_code
def yX2_isClassName : MethodName := ⟨RX2, "isClassName", "(I)Z"⟩
abbrev cX2_isNameAt : ByteArray := prog_13_method_14_code
def yX2_isNameAt : MethodName := ⟨RX2, "isNameAt", "(IIII)Z"⟩
abbrev cX2_isName : ByteArray := prog_13_method_15_code
def yX2_isName : MethodName := ⟨RX2, "isName", "(I)Z"⟩
abbrev cX2_isType : ByteArray := prog_13_method_21_code
def yX2_isType : MethodName := ⟨RX2, "isType", "(I)Z"⟩
abbrev cX2_isIntBare : ByteArray := prog_13_method_20_code
def yX2_isIntBare : MethodName := ⟨RX2, "isIntBare", "(I)Z"⟩
abbrev cX2_bareEnd : ByteArray := prog_13_method_18_code
def yX2_bareEnd : MethodName := ⟨RX2, "bareEnd", "(I)I"⟩
abbrev cX2_isArrayWord : ByteArray := prog_13_method_17_code
def yX2_isArrayWord : MethodName := ⟨RX2, "isArrayWord", "(I)Z"⟩
abbrev cX2_isNumber : ByteArray := prog_13_method_23_code
def yX2_isNumber : MethodName := ⟨RX2, "isNumber", "(I)Z"⟩
abbrev cX2_value : ByteArray := prog_13_method_24_code
def yX2_value : MethodName := ⟨RX2, "value", "(I)J"⟩
abbrev cX2_word : ByteArray := prog_13_method_12_code
def yX2_word : MethodName := ⟨RX2, "word", "(ILjava/lang/String;)I"⟩
abbrev cX2_wordOf : ByteArray := prog_13_method_11_code
def yX2_wordOf : MethodName := ⟨RX2, "wordOf", "(IILjava/lang/String;)I"⟩
abbrev cX2_point : ByteArray := prog_13_method_22_code
def yX2_point : MethodName := ⟨RX2, "point", "(I)I"⟩
abbrev cX2_knownClass : ByteArray := prog_13_method_13_code
def yX2_knownClass : MethodName := ⟨RX2, "knownClass", "(II)I"⟩
abbrev cX2_isSamePart : ByteArray := prog_13_method_26_code
def yX2_isSamePart : MethodName := ⟨RX2, "isSamePart", "(IIII)Z"⟩
abbrev cX2_isArrayType : ByteArray := prog_13_method_19_code
def yX2_isArrayType : MethodName := ⟨RX2, "isArrayType", "(I)Z"⟩
abbrev cX2_isSame : ByteArray := prog_13_method_27_code
def yX2_isSame : MethodName := ⟨RX2, "isSame", "(II)Z"⟩
abbrev cX2_number : ByteArray := prog_13_method_25_code
def yX2_number : MethodName := ⟨RX2, "number", "(I)I"⟩
theorem q253 : (Jvm.Cond.initialized "SafeCode$Tokens") ∈ lw_all := lw_g (lw_at lw_m1 7 rfl) rfl
theorem q363 : (Jvm.Cond.instantiable "SafeCode$Tokens" (4 : Nat)) ∈ lw_all := lw_g (lw_at lw_m1 117 rfl) rfl
theorem q365 : (Jvm.Cond.instanceMethod ({ cls := "SafeCode$Tokens", name := "<init>", desc := "(LSafeCode$Fault;)V" } : Jvm.MethodName)) ∈ lw_all := lw_g (lw_at lw_m1 119 rfl) rfl
theorem q366 : (Jvm.Cond.code ({ cls := "SafeCode$Tokens", name := "<init>", desc := "(LSafeCode$Fault;)V" } : Jvm.MethodName) prog_13_method_1_code (2 : Nat) (Option.none : Option Jvm.ClassFile.FieldType)) ∈ lw_all := lw_g (lw_at lw_m1 120 rfl) rfl
theorem q367 : (Jvm.Cond.methodLink "SafeCode$Tokens" (3 : Nat) ({ cls := "java/lang/Object", name := "<init>", desc := "()V" } : Jvm.MethodName)) ∈ lw_all := lw_g (lw_at lw_m1 121 rfl) rfl
theorem q368 : (Jvm.Cond.classLink "SafeCode$Tokens" (9 : Nat) "SafeCode$Ints") ∈ lw_all := lw_g (lw_at lw_m1 122 rfl) rfl
theorem q370 : (Jvm.Cond.methodLinkNest "SafeCode$Tokens" (11 : Nat) ({ cls := "SafeCode$Ints", name := "<init>", desc := "()V" } : Jvm.MethodName) "SafeCode") ∈ lw_tbl := lw_at lw_m1 124 rfl
theorem q376 : (Jvm.Cond.fieldLink "SafeCode$Tokens" (66 : Nat) "SafeCode$Ints" "row" "[I") ∈ lw_all := lw_g (lw_at lw_m1 130 rfl) rfl
theorem q378 : (Jvm.Cond.fieldLink "SafeCode$Tokens" (25 : Nat) "SafeCode$Ints" "size" "I") ∈ lw_all := lw_g (lw_at lw_m1 132 rfl) rfl
theorem q387 : (Jvm.Cond.fieldLink "SafeCode$Tokens" (21 : Nat) "SafeCode$Tokens" "fault" "LSafeCode$Fault;") ∈ lw_all := lw_g (lw_at lw_m1 141 rfl) rfl
theorem q388 : (Jvm.Cond.fieldLink "SafeCode$Tokens" (29 : Nat) "SafeCode$Tokens" "text" "[B") ∈ lw_all := lw_g (lw_at lw_m1 142 rfl) rfl
theorem q389 : (Jvm.Cond.fieldLink "SafeCode$Tokens" (12 : Nat) "SafeCode$Tokens" "from" "LSafeCode$Ints;") ∈ lw_all := lw_g (lw_at lw_m1 143 rfl) rfl
theorem q391 : (Jvm.Cond.fieldLink "SafeCode$Tokens" (18 : Nat) "SafeCode$Tokens" "to" "LSafeCode$Ints;") ∈ lw_all := lw_g (lw_at lw_m1 145 rfl) rfl
theorem q393 : (Jvm.Cond.laysFinal "SafeCode$Tokens" "SafeCode$Tokens" "fault" "LSafeCode$Fault;") ∈ lw_all := lw_g (lw_at lw_m1 147 rfl) rfl
theorem q394 : (Jvm.Cond.soleField "SafeCode$Tokens" "fault") ∈ lw_all := lw_g (lw_at lw_m1 148 rfl) rfl
theorem q395 : (Jvm.Cond.lays "SafeCode$Tokens" "SafeCode$Tokens" "text" "[B") ∈ lw_all := lw_g (lw_at lw_m1 149 rfl) rfl
theorem q396 : (Jvm.Cond.soleField "SafeCode$Tokens" "text") ∈ lw_all := lw_g (lw_at lw_m1 150 rfl) rfl
theorem q397 : (Jvm.Cond.laysFinal "SafeCode$Tokens" "SafeCode$Tokens" "from" "LSafeCode$Ints;") ∈ lw_all := lw_g (lw_at lw_m1 151 rfl) rfl
theorem q398 : (Jvm.Cond.soleField "SafeCode$Tokens" "from") ∈ lw_all := lw_g (lw_at lw_m1 152 rfl) rfl
theorem q399 : (Jvm.Cond.laysFinal "SafeCode$Tokens" "SafeCode$Tokens" "to" "LSafeCode$Ints;") ∈ lw_all := lw_g (lw_at lw_m1 153 rfl) rfl
theorem q400 : (Jvm.Cond.soleField "SafeCode$Tokens" "to") ∈ lw_all := lw_g (lw_at lw_m1 154 rfl) rfl
theorem q401 : (Jvm.Cond.superclass "SafeCode$Tokens" "java/lang/Object") ∈ lw_all := lw_g (lw_at lw_m1 155 rfl) rfl
theorem q1080 : (Jvm.Cond.instanceMethod ({ cls := "SafeCode$Tokens", name := "cut", desc := "([BI)V" } : Jvm.MethodName)) ∈ lw_all := lw_g (lw_at lw_m4 114 rfl) rfl
theorem q1081 : (Jvm.Cond.selects "SafeCode$Tokens" ({ cls := "SafeCode$Tokens", name := "cut", desc := "([BI)V" } : Jvm.MethodName) ({ cls := "SafeCode$Tokens", name := "cut", desc := "([BI)V" } : Jvm.MethodName)) ∈ lw_all := lw_g (lw_at lw_m4 115 rfl) rfl
theorem q1082 : (Jvm.Cond.code ({ cls := "SafeCode$Tokens", name := "cut", desc := "([BI)V" } : Jvm.MethodName) prog_13_method_6_code (5 : Nat) (Option.none : Option Jvm.ClassFile.FieldType)) ∈ lw_all := lw_g (lw_at lw_m4 116 rfl) rfl
theorem q1083 : (Jvm.Cond.methodLink "SafeCode$Tokens" (33 : Nat) ({ cls := "SafeCode$Ints", name := "clear", desc := "()V" } : Jvm.MethodName)) ∈ lw_all := lw_g (lw_at lw_m4 117 rfl) rfl
theorem q1087 : (Jvm.Cond.methodLink "SafeCode$Tokens" (36 : Nat) ({ cls := "SafeCode$Tokens", name := "isRight", desc := "(I)Z" } : Jvm.MethodName)) ∈ lw_all := lw_g (lw_at lw_m4 121 rfl) rfl
theorem q1088 : (Jvm.Cond.static ({ cls := "SafeCode$Tokens", name := "isRight", desc := "(I)Z" } : Jvm.MethodName)) ∈ lw_all := lw_g (lw_at lw_m4 122 rfl) rfl
theorem q1089 : (Jvm.Cond.code ({ cls := "SafeCode$Tokens", name := "isRight", desc := "(I)Z" } : Jvm.MethodName) prog_13_method_5_code (1 : Nat) (Option.some Jvm.ClassFile.FieldType.boolean)) ∈ lw_all := lw_g (lw_at lw_m4 123 rfl) rfl
theorem q1090 : (Jvm.Cond.methodLink "SafeCode$Tokens" (40 : Nat) ({ cls := "SafeCode$Tokens", name := "size", desc := "()I" } : Jvm.MethodName)) ∈ lw_all := lw_g (lw_at lw_m4 124 rfl) rfl
theorem q1091 : (Jvm.Cond.instanceMethod ({ cls := "SafeCode$Tokens", name := "size", desc := "()I" } : Jvm.MethodName)) ∈ lw_all := lw_g (lw_at lw_m4 125 rfl) rfl
theorem q1092 : (Jvm.Cond.selects "SafeCode$Tokens" ({ cls := "SafeCode$Tokens", name := "size", desc := "()I" } : Jvm.MethodName) ({ cls := "SafeCode$Tokens", name := "size", desc := "()I" } : Jvm.MethodName)) ∈ lw_all := lw_g (lw_at lw_m4 126 rfl) rfl
theorem q1093 : (Jvm.Cond.code ({ cls := "SafeCode$Tokens", name := "size", desc := "()I" } : Jvm.MethodName) prog_13_method_2_code (1 : Nat) (Option.some Jvm.ClassFile.FieldType.int)) ∈ lw_all := lw_g (lw_at lw_m4 127 rfl) rfl
theorem q1094 : (Jvm.Cond.methodLink "SafeCode$Tokens" (43 : Nat) ({ cls := "SafeCode$Fault", name := "at", desc := "(II)Ljava/lang/IllegalStateException;" } : Jvm.MethodName)) ∈ lw_all := lw_g (lw_at lw_m4 128 rfl) rfl
theorem q1098 : (Jvm.Cond.methodLink "SafeCode$Tokens" (49 : Nat) ({ cls := "SafeCode$Tokens", name := "lineEnd", desc := "(II)I" } : Jvm.MethodName)) ∈ lw_all := lw_g (lw_at lw_m4 132 rfl) rfl
theorem q1099 : (Jvm.Cond.privateMethod ({ cls := "SafeCode$Tokens", name := "lineEnd", desc := "(II)I" } : Jvm.MethodName)) ∈ lw_tbl := lw_at lw_m4 133 rfl
theorem q1100 : (Jvm.Cond.instanceMethod ({ cls := "SafeCode$Tokens", name := "lineEnd", desc := "(II)I" } : Jvm.MethodName)) ∈ lw_all := lw_g (lw_at lw_m4 134 rfl) rfl
theorem q1101 : (Jvm.Cond.code ({ cls := "SafeCode$Tokens", name := "lineEnd", desc := "(II)I" } : Jvm.MethodName) prog_13_method_7_code (4 : Nat) (Option.some Jvm.ClassFile.FieldType.int)) ∈ lw_all := lw_g (lw_at lw_m4 135 rfl) rfl
theorem q1102 : (Jvm.Cond.methodLink "SafeCode$Tokens" (53 : Nat) ({ cls := "SafeCode$Tokens", name := "isBlank", desc := "(I)Z" } : Jvm.MethodName)) ∈ lw_all := lw_g (lw_at lw_m4 136 rfl) rfl
theorem q1103 : (Jvm.Cond.static ({ cls := "SafeCode$Tokens", name := "isBlank", desc := "(I)Z" } : Jvm.MethodName)) ∈ lw_all := lw_g (lw_at lw_m4 137 rfl) rfl
theorem q1104 : (Jvm.Cond.code ({ cls := "SafeCode$Tokens", name := "isBlank", desc := "(I)Z" } : Jvm.MethodName) prog_13_method_3_code (1 : Nat) (Option.some Jvm.ClassFile.FieldType.boolean)) ∈ lw_all := lw_g (lw_at lw_m4 138 rfl) rfl
theorem q1105 : (Jvm.Cond.methodLink "SafeCode$Tokens" (56 : Nat) ({ cls := "SafeCode$Ints", name := "add", desc := "(I)V" } : Jvm.MethodName)) ∈ lw_all := lw_g (lw_at lw_m4 139 rfl) rfl
theorem q1125 : (Jvm.Cond.methodLink "SafeCode$Tokens" (60 : Nat) ({ cls := "SafeCode$Tokens", name := "isMark", desc := "(I)Z" } : Jvm.MethodName)) ∈ lw_all := lw_g (lw_at lw_m4 159 rfl) rfl
theorem q1126 : (Jvm.Cond.static ({ cls := "SafeCode$Tokens", name := "isMark", desc := "(I)Z" } : Jvm.MethodName)) ∈ lw_all := lw_g (lw_at lw_m4 160 rfl) rfl
theorem q1127 : (Jvm.Cond.code ({ cls := "SafeCode$Tokens", name := "isMark", desc := "(I)Z" } : Jvm.MethodName) prog_13_method_4_code (1 : Nat) (Option.some Jvm.ClassFile.FieldType.boolean)) ∈ lw_all := lw_g (lw_at lw_m4 161 rfl) rfl
theorem q1128 : (Jvm.Cond.methodLink "SafeCode$Tokens" (63 : Nat) ({ cls := "SafeCode$Tokens", name := "wordEnd", desc := "(II)I" } : Jvm.MethodName)) ∈ lw_all := lw_g (lw_at lw_m4 162 rfl) rfl
theorem q1129 : (Jvm.Cond.privateMethod ({ cls := "SafeCode$Tokens", name := "wordEnd", desc := "(II)I" } : Jvm.MethodName)) ∈ lw_tbl := lw_at lw_m4 163 rfl
theorem q1130 : (Jvm.Cond.instanceMethod ({ cls := "SafeCode$Tokens", name := "wordEnd", desc := "(II)I" } : Jvm.MethodName)) ∈ lw_all := lw_g (lw_at lw_m4 164 rfl) rfl
theorem q1131 : (Jvm.Cond.code ({ cls := "SafeCode$Tokens", name := "wordEnd", desc := "(II)I" } : Jvm.MethodName) prog_13_method_8_code (4 : Nat) (Option.some Jvm.ClassFile.FieldType.int)) ∈ lw_all := lw_g (lw_at lw_m4 165 rfl) rfl
theorem q1144 : (Jvm.Cond.instanceMethod ({ cls := "SafeCode$Tokens", name := "is", desc := "(ILjava/lang/String;)Z" } : Jvm.MethodName)) ∈ lw_all := lw_g (lw_at lw_m4 178 rfl) rfl
theorem q1145 : (Jvm.Cond.selects "SafeCode$Tokens" ({ cls := "SafeCode$Tokens", name := "is", desc := "(ILjava/lang/String;)Z" } : Jvm.MethodName) ({ cls := "SafeCode$Tokens", name := "is", desc := "(ILjava/lang/String;)Z" } : Jvm.MethodName)) ∈ lw_all := lw_g (lw_at lw_m4 179 rfl) rfl
theorem q1146 : (Jvm.Cond.code ({ cls := "SafeCode$Tokens", name := "is", desc := "(ILjava/lang/String;)Z" } : Jvm.MethodName) prog_13_method_9_code (3 : Nat) (Option.some Jvm.ClassFile.FieldType.boolean)) ∈ lw_all := lw_g (lw_at lw_m4 180 rfl) rfl
theorem q1147 : (Jvm.Cond.methodLink "SafeCode$Tokens" (70 : Nat) ({ cls := "java/lang/String", name := "length", desc := "()I" } : Jvm.MethodName)) ∈ lw_all := lw_g (lw_at lw_m4 181 rfl) rfl
theorem q1157 : (Jvm.Cond.methodLink "SafeCode$Tokens" (75 : Nat) ({ cls := "SafeCode$Tokens", name := "isAt", desc := "(IILjava/lang/String;II)Z" } : Jvm.MethodName)) ∈ lw_all := lw_g (lw_at lw_m4 191 rfl) rfl
theorem q1158 : (Jvm.Cond.privateMethod ({ cls := "SafeCode$Tokens", name := "isAt", desc := "(IILjava/lang/String;II)Z" } : Jvm.MethodName)) ∈ lw_tbl := lw_at lw_m4 192 rfl
theorem q1159 : (Jvm.Cond.instanceMethod ({ cls := "SafeCode$Tokens", name := "isAt", desc := "(IILjava/lang/String;II)Z" } : Jvm.MethodName)) ∈ lw_all := lw_g (lw_at lw_m4 193 rfl) rfl
theorem q1160 : (Jvm.Cond.code ({ cls := "SafeCode$Tokens", name := "isAt", desc := "(IILjava/lang/String;II)Z" } : Jvm.MethodName) prog_13_method_10_code (7 : Nat) (Option.some Jvm.ClassFile.FieldType.boolean)) ∈ lw_all := lw_g (lw_at lw_m4 194 rfl) rfl
theorem q1161 : (Jvm.Cond.methodLink "SafeCode$Tokens" (79 : Nat) ({ cls := "java/lang/String", name := "charAt", desc := "(I)C" } : Jvm.MethodName)) ∈ lw_all := lw_g (lw_at lw_m4 195 rfl) rfl
theorem q1205 : (Jvm.Cond.instanceMethod ({ cls := "SafeCode$Tokens", name := "isClassName", desc := "(I)Z" } : Jvm.MethodName)) ∈ lw_all := lw_g (lw_at lw_m4 239 rfl) rfl
theorem q1206 : (Jvm.Cond.selects "SafeCode$Tokens" ({ cls := "SafeCode$Tokens", name := "isClassName", desc := "(I)Z" } : Jvm.MethodName) ({ cls := "SafeCode$Tokens", name := "isClassName", desc := "(I)Z" } : Jvm.MethodName)) ∈ lw_all := lw_g (lw_at lw_m5 0 rfl) rfl
theorem q1207 : (Jvm.Cond.code ({ cls := "SafeCode$Tokens", name := "isClassName", desc := "(I)Z" } : Jvm.MethodName) prog_13_method_16_code (2 : Nat) (Option.some Jvm.ClassFile.FieldType.boolean)) ∈ lw_all := lw_g (lw_at lw_m5 1 rfl) rfl
theorem q1208 : (Jvm.Cond.methodLink "SafeCode$Tokens" (89 : Nat) ({ cls := "SafeCode$Tokens", name := "isNameAt", desc := "(IIII)Z" } : Jvm.MethodName)) ∈ lw_all := lw_g (lw_at lw_m5 2 rfl) rfl
theorem q1209 : (Jvm.Cond.privateMethod ({ cls := "SafeCode$Tokens", name := "isNameAt", desc := "(IIII)Z" } : Jvm.MethodName)) ∈ lw_tbl := lw_at lw_m5 3 rfl
theorem q1210 : (Jvm.Cond.instanceMethod ({ cls := "SafeCode$Tokens", name := "isNameAt", desc := "(IIII)Z" } : Jvm.MethodName)) ∈ lw_all := lw_g (lw_at lw_m5 4 rfl) rfl
theorem q1211 : (Jvm.Cond.code ({ cls := "SafeCode$Tokens", name := "isNameAt", desc := "(IIII)Z" } : Jvm.MethodName) prog_13_method_14_code (7 : Nat) (Option.some Jvm.ClassFile.FieldType.boolean)) ∈ lw_all := lw_g (lw_at lw_m5 5 rfl) rfl
theorem q1224 : (Jvm.Cond.instanceMethod ({ cls := "SafeCode$Tokens", name := "isName", desc := "(I)Z" } : Jvm.MethodName)) ∈ lw_all := lw_g (lw_at lw_m5 18 rfl) rfl
theorem q1225 : (Jvm.Cond.selects "SafeCode$Tokens" ({ cls := "SafeCode$Tokens", name := "isName", desc := "(I)Z" } : Jvm.MethodName) ({ cls := "SafeCode$Tokens", name := "isName", desc := "(I)Z" } : Jvm.MethodName)) ∈ lw_all := lw_g (lw_at lw_m5 19 rfl) rfl
theorem q1226 : (Jvm.Cond.code ({ cls := "SafeCode$Tokens", name := "isName", desc := "(I)Z" } : Jvm.MethodName) prog_13_method_15_code (2 : Nat) (Option.some Jvm.ClassFile.FieldType.boolean)) ∈ lw_all := lw_g (lw_at lw_m5 20 rfl) rfl
theorem q1228 : (Jvm.Cond.instanceMethod ({ cls := "SafeCode$Tokens", name := "isType", desc := "(I)Z" } : Jvm.MethodName)) ∈ lw_all := lw_g (lw_at lw_m5 22 rfl) rfl
theorem q1229 : (Jvm.Cond.selects "SafeCode$Tokens" ({ cls := "SafeCode$Tokens", name := "isType", desc := "(I)Z" } : Jvm.MethodName) ({ cls := "SafeCode$Tokens", name := "isType", desc := "(I)Z" } : Jvm.MethodName)) ∈ lw_all := lw_g (lw_at lw_m5 23 rfl) rfl
theorem q1230 : (Jvm.Cond.code ({ cls := "SafeCode$Tokens", name := "isType", desc := "(I)Z" } : Jvm.MethodName) prog_13_method_21_code (2 : Nat) (Option.some Jvm.ClassFile.FieldType.boolean)) ∈ lw_all := lw_g (lw_at lw_m5 24 rfl) rfl
theorem q1231 : (Jvm.Cond.methodLink "SafeCode$Tokens" (102 : Nat) ({ cls := "SafeCode$Tokens", name := "isIntBare", desc := "(I)Z" } : Jvm.MethodName)) ∈ lw_all := lw_g (lw_at lw_m5 25 rfl) rfl
theorem q1232 : (Jvm.Cond.instanceMethod ({ cls := "SafeCode$Tokens", name := "isIntBare", desc := "(I)Z" } : Jvm.MethodName)) ∈ lw_all := lw_g (lw_at lw_m5 26 rfl) rfl
theorem q1233 : (Jvm.Cond.selects "SafeCode$Tokens" ({ cls := "SafeCode$Tokens", name := "isIntBare", desc := "(I)Z" } : Jvm.MethodName) ({ cls := "SafeCode$Tokens", name := "isIntBare", desc := "(I)Z" } : Jvm.MethodName)) ∈ lw_all := lw_g (lw_at lw_m5 27 rfl) rfl
theorem q1234 : (Jvm.Cond.code ({ cls := "SafeCode$Tokens", name := "isIntBare", desc := "(I)Z" } : Jvm.MethodName) prog_13_method_20_code (2 : Nat) (Option.some Jvm.ClassFile.FieldType.boolean)) ∈ lw_all := lw_g (lw_at lw_m5 28 rfl) rfl
theorem q1235 : (Jvm.Cond.methodLink "SafeCode$Tokens" (96 : Nat) ({ cls := "SafeCode$Tokens", name := "bareEnd", desc := "(I)I" } : Jvm.MethodName)) ∈ lw_all := lw_g (lw_at lw_m5 29 rfl) rfl
theorem q1236 : (Jvm.Cond.instanceMethod ({ cls := "SafeCode$Tokens", name := "bareEnd", desc := "(I)I" } : Jvm.MethodName)) ∈ lw_all := lw_g (lw_at lw_m5 30 rfl) rfl
theorem q1237 : (Jvm.Cond.selects "SafeCode$Tokens" ({ cls := "SafeCode$Tokens", name := "bareEnd", desc := "(I)I" } : Jvm.MethodName) ({ cls := "SafeCode$Tokens", name := "bareEnd", desc := "(I)I" } : Jvm.MethodName)) ∈ lw_all := lw_g (lw_at lw_m5 31 rfl) rfl
theorem q1238 : (Jvm.Cond.code ({ cls := "SafeCode$Tokens", name := "bareEnd", desc := "(I)I" } : Jvm.MethodName) prog_13_method_18_code (2 : Nat) (Option.some Jvm.ClassFile.FieldType.int)) ∈ lw_all := lw_g (lw_at lw_m5 32 rfl) rfl
theorem q1239 : (Jvm.Cond.methodLink "SafeCode$Tokens" (93 : Nat) ({ cls := "SafeCode$Tokens", name := "isArrayWord", desc := "(I)Z" } : Jvm.MethodName)) ∈ lw_all := lw_g (lw_at lw_m5 33 rfl) rfl
theorem q1240 : (Jvm.Cond.privateMethod ({ cls := "SafeCode$Tokens", name := "isArrayWord", desc := "(I)Z" } : Jvm.MethodName)) ∈ lw_tbl := lw_at lw_m5 34 rfl
theorem q1241 : (Jvm.Cond.instanceMethod ({ cls := "SafeCode$Tokens", name := "isArrayWord", desc := "(I)Z" } : Jvm.MethodName)) ∈ lw_all := lw_g (lw_at lw_m5 35 rfl) rfl
theorem q1242 : (Jvm.Cond.code ({ cls := "SafeCode$Tokens", name := "isArrayWord", desc := "(I)Z" } : Jvm.MethodName) prog_13_method_17_code (2 : Nat) (Option.some Jvm.ClassFile.FieldType.boolean)) ∈ lw_all := lw_g (lw_at lw_m5 36 rfl) rfl
theorem q1243 : (Jvm.Cond.stringRef "SafeCode$Tokens" (100 : Nat) "int") ∈ lw_tbl := lw_at lw_m5 37 rfl
theorem q1252 : (Jvm.Cond.instanceMethod ({ cls := "SafeCode$Tokens", name := "isNumber", desc := "(I)Z" } : Jvm.MethodName)) ∈ lw_all := lw_g (lw_at lw_m5 46 rfl) rfl
theorem q1253 : (Jvm.Cond.selects "SafeCode$Tokens" ({ cls := "SafeCode$Tokens", name := "isNumber", desc := "(I)Z" } : Jvm.MethodName) ({ cls := "SafeCode$Tokens", name := "isNumber", desc := "(I)Z" } : Jvm.MethodName)) ∈ lw_all := lw_g (lw_at lw_m5 47 rfl) rfl
theorem q1254 : (Jvm.Cond.code ({ cls := "SafeCode$Tokens", name := "isNumber", desc := "(I)Z" } : Jvm.MethodName) prog_13_method_23_code (6 : Nat) (Option.some Jvm.ClassFile.FieldType.boolean)) ∈ lw_all := lw_g (lw_at lw_m5 48 rfl) rfl
theorem q1255 : (Jvm.Cond.methodLink "SafeCode$Tokens" (105 : Nat) ({ cls := "SafeCode$Tokens", name := "value", desc := "(I)J" } : Jvm.MethodName)) ∈ lw_all := lw_g (lw_at lw_m5 49 rfl) rfl
theorem q1256 : (Jvm.Cond.privateMethod ({ cls := "SafeCode$Tokens", name := "value", desc := "(I)J" } : Jvm.MethodName)) ∈ lw_tbl := lw_at lw_m5 50 rfl
theorem q1257 : (Jvm.Cond.instanceMethod ({ cls := "SafeCode$Tokens", name := "value", desc := "(I)J" } : Jvm.MethodName)) ∈ lw_all := lw_g (lw_at lw_m5 51 rfl) rfl
theorem q1258 : (Jvm.Cond.code ({ cls := "SafeCode$Tokens", name := "value", desc := "(I)J" } : Jvm.MethodName) prog_13_method_24_code (6 : Nat) (Option.some Jvm.ClassFile.FieldType.long)) ∈ lw_all := lw_g (lw_at lw_m5 52 rfl) rfl
theorem q1259 : (Jvm.Cond.constantLong "SafeCode$Tokens" (113 : Nat) (10 : Int64)) ∈ lw_all := lw_g (lw_at lw_m5 53 rfl) rfl
theorem q1260 : (Jvm.Cond.constantLong "SafeCode$Tokens" (115 : Nat) (48 : Int64)) ∈ lw_all := lw_g (lw_at lw_m5 54 rfl) rfl
theorem q1261 : (Jvm.Cond.constantLong "SafeCode$Tokens" (109 : Nat) (-2147483648 : Int64)) ∈ lw_all := lw_g (lw_at lw_m5 55 rfl) rfl
theorem q1262 : (Jvm.Cond.constantLong "SafeCode$Tokens" (111 : Nat) (2147483647 : Int64)) ∈ lw_all := lw_g (lw_at lw_m5 56 rfl) rfl
theorem q1271 : (Jvm.Cond.instanceMethod ({ cls := "SafeCode$Tokens", name := "word", desc := "(ILjava/lang/String;)I" } : Jvm.MethodName)) ∈ lw_all := lw_g (lw_at lw_m5 65 rfl) rfl
theorem q1272 : (Jvm.Cond.selects "SafeCode$Tokens" ({ cls := "SafeCode$Tokens", name := "word", desc := "(ILjava/lang/String;)I" } : Jvm.MethodName) ({ cls := "SafeCode$Tokens", name := "word", desc := "(ILjava/lang/String;)I" } : Jvm.MethodName)) ∈ lw_all := lw_g (lw_at lw_m5 66 rfl) rfl
theorem q1273 : (Jvm.Cond.code ({ cls := "SafeCode$Tokens", name := "word", desc := "(ILjava/lang/String;)I" } : Jvm.MethodName) prog_13_method_12_code (3 : Nat) (Option.some Jvm.ClassFile.FieldType.int)) ∈ lw_all := lw_g (lw_at lw_m5 67 rfl) rfl
theorem q1274 : (Jvm.Cond.methodLink "SafeCode$Tokens" (83 : Nat) ({ cls := "SafeCode$Tokens", name := "wordOf", desc := "(IILjava/lang/String;)I" } : Jvm.MethodName)) ∈ lw_all := lw_g (lw_at lw_m5 68 rfl) rfl
theorem q1275 : (Jvm.Cond.privateMethod ({ cls := "SafeCode$Tokens", name := "wordOf", desc := "(IILjava/lang/String;)I" } : Jvm.MethodName)) ∈ lw_tbl := lw_at lw_m5 69 rfl
theorem q1276 : (Jvm.Cond.instanceMethod ({ cls := "SafeCode$Tokens", name := "wordOf", desc := "(IILjava/lang/String;)I" } : Jvm.MethodName)) ∈ lw_all := lw_g (lw_at lw_m5 70 rfl) rfl
theorem q1277 : (Jvm.Cond.code ({ cls := "SafeCode$Tokens", name := "wordOf", desc := "(IILjava/lang/String;)I" } : Jvm.MethodName) prog_13_method_11_code (7 : Nat) (Option.some Jvm.ClassFile.FieldType.int)) ∈ lw_all := lw_g (lw_at lw_m5 71 rfl) rfl
theorem q1284 : (Jvm.Cond.instanceMethod ({ cls := "SafeCode$Tokens", name := "point", desc := "(I)I" } : Jvm.MethodName)) ∈ lw_all := lw_g (lw_at lw_m5 78 rfl) rfl
theorem q1285 : (Jvm.Cond.selects "SafeCode$Tokens" ({ cls := "SafeCode$Tokens", name := "point", desc := "(I)I" } : Jvm.MethodName) ({ cls := "SafeCode$Tokens", name := "point", desc := "(I)I" } : Jvm.MethodName)) ∈ lw_all := lw_g (lw_at lw_m5 79 rfl) rfl
theorem q1286 : (Jvm.Cond.code ({ cls := "SafeCode$Tokens", name := "point", desc := "(I)I" } : Jvm.MethodName) prog_13_method_22_code (5 : Nat) (Option.some Jvm.ClassFile.FieldType.int)) ∈ lw_all := lw_g (lw_at lw_m5 80 rfl) rfl
theorem q1308 : (Jvm.Cond.instanceMethod ({ cls := "SafeCode$Tokens", name := "knownClass", desc := "(II)I" } : Jvm.MethodName)) ∈ lw_all := lw_g (lw_at lw_m5 102 rfl) rfl
theorem q1309 : (Jvm.Cond.selects "SafeCode$Tokens" ({ cls := "SafeCode$Tokens", name := "knownClass", desc := "(II)I" } : Jvm.MethodName) ({ cls := "SafeCode$Tokens", name := "knownClass", desc := "(II)I" } : Jvm.MethodName)) ∈ lw_all := lw_g (lw_at lw_m5 103 rfl) rfl
theorem q1310 : (Jvm.Cond.code ({ cls := "SafeCode$Tokens", name := "knownClass", desc := "(II)I" } : Jvm.MethodName) prog_13_method_13_code (3 : Nat) (Option.some Jvm.ClassFile.FieldType.int)) ∈ lw_all := lw_g (lw_at lw_m5 104 rfl) rfl
theorem q1311 : (Jvm.Cond.stringRef "SafeCode$Tokens" (87 : Nat) "Object Error NullError IndexError SizeError DivideError CastError StoreError ") ∈ lw_tbl := lw_at lw_m5 105 rfl
theorem q1313 : (Jvm.Cond.instanceMethod ({ cls := "SafeCode$Tokens", name := "isSamePart", desc := "(IIII)Z" } : Jvm.MethodName)) ∈ lw_all := lw_g (lw_at lw_m5 107 rfl) rfl
theorem q1314 : (Jvm.Cond.selects "SafeCode$Tokens" ({ cls := "SafeCode$Tokens", name := "isSamePart", desc := "(IIII)Z" } : Jvm.MethodName) ({ cls := "SafeCode$Tokens", name := "isSamePart", desc := "(IIII)Z" } : Jvm.MethodName)) ∈ lw_all := lw_g (lw_at lw_m5 108 rfl) rfl
theorem q1315 : (Jvm.Cond.code ({ cls := "SafeCode$Tokens", name := "isSamePart", desc := "(IIII)Z" } : Jvm.MethodName) prog_13_method_26_code (6 : Nat) (Option.some Jvm.ClassFile.FieldType.boolean)) ∈ lw_all := lw_g (lw_at lw_m5 109 rfl) rfl
theorem q1343 : (Jvm.Cond.instanceMethod ({ cls := "SafeCode$Tokens", name := "isArrayType", desc := "(I)Z" } : Jvm.MethodName)) ∈ lw_all := lw_g (lw_at lw_m5 137 rfl) rfl
theorem q1344 : (Jvm.Cond.selects "SafeCode$Tokens" ({ cls := "SafeCode$Tokens", name := "isArrayType", desc := "(I)Z" } : Jvm.MethodName) ({ cls := "SafeCode$Tokens", name := "isArrayType", desc := "(I)Z" } : Jvm.MethodName)) ∈ lw_all := lw_g (lw_at lw_m5 138 rfl) rfl
theorem q1345 : (Jvm.Cond.code ({ cls := "SafeCode$Tokens", name := "isArrayType", desc := "(I)Z" } : Jvm.MethodName) prog_13_method_19_code (2 : Nat) (Option.some Jvm.ClassFile.FieldType.boolean)) ∈ lw_all := lw_g (lw_at lw_m5 139 rfl) rfl
theorem q1375 : (Jvm.Cond.instanceMethod ({ cls := "SafeCode$Tokens", name := "isSame", desc := "(II)Z" } : Jvm.MethodName)) ∈ lw_all := lw_g (lw_at lw_m5 169 rfl) rfl
theorem q1376 : (Jvm.Cond.selects "SafeCode$Tokens" ({ cls := "SafeCode$Tokens", name := "isSame", desc := "(II)Z" } : Jvm.MethodName) ({ cls := "SafeCode$Tokens", name := "isSame", desc := "(II)Z" } : Jvm.MethodName)) ∈ lw_all := lw_g (lw_at lw_m5 170 rfl) rfl
theorem q1377 : (Jvm.Cond.code ({ cls := "SafeCode$Tokens", name := "isSame", desc := "(II)Z" } : Jvm.MethodName) prog_13_method_27_code (3 : Nat) (Option.some Jvm.ClassFile.FieldType.boolean)) ∈ lw_all := lw_g (lw_at lw_m5 171 rfl) rfl
theorem q1378 : (Jvm.Cond.methodLink "SafeCode$Tokens" (117 : Nat) ({ cls := "SafeCode$Tokens", name := "isSamePart", desc := "(IIII)Z" } : Jvm.MethodName)) ∈ lw_all := lw_g (lw_at lw_m5 172 rfl) rfl
theorem q1382 : (Jvm.Cond.instanceMethod ({ cls := "SafeCode$Tokens", name := "number", desc := "(I)I" } : Jvm.MethodName)) ∈ lw_all := lw_g (lw_at lw_m5 176 rfl) rfl
theorem q1383 : (Jvm.Cond.selects "SafeCode$Tokens" ({ cls := "SafeCode$Tokens", name := "number", desc := "(I)I" } : Jvm.MethodName) ({ cls := "SafeCode$Tokens", name := "number", desc := "(I)I" } : Jvm.MethodName)) ∈ lw_all := lw_g (lw_at lw_m5 177 rfl) rfl
theorem q1384 : (Jvm.Cond.code ({ cls := "SafeCode$Tokens", name := "number", desc := "(I)I" } : Jvm.MethodName) prog_13_method_25_code (2 : Nat) (Option.some Jvm.ClassFile.FieldType.int)) ∈ lw_all := lw_g (lw_at lw_m5 178 rfl) rfl
theorem in_X2 : ∀ w ∈ wsX20, w ∈ lw_all := lw_in wsX20 [393, 395, 397, 399] (by decide +kernel) (by decide +kernel)
/-! SafeCode$Ints -/
def RX3 : String := "SafeCode$Ints"
def TX3 : u_T := fun k => match k with
  | 0 => ("SafeCode$Ints", "row", "[I", false)
  | _ => ("SafeCode$Ints", "size", "I", false)
def tyX3 : Nat → FieldType := fun k => match k with
  | 0 => .array .int
  | _ => .int
abbrev wsX30 : List Cond := u_ws RX3 TX3 2
theorem nmX3 : ∀ a, a < 2 → ∀ b, b < 2 → a ≠ b → (TX3 a).2.1 ≠ (TX3 b).2.1 := by decide +kernel
theorem tyX3_ok : ∀ k, k < 2 → parseFieldDescriptor (TX3 k).2.2.1 = some (tyX3 k) := by decide +kernel
abbrev cX3_init : ByteArray := prog_6_method_1_code
def yX3_init : MethodName := ⟨RX3, "<init>", "()V"⟩
abbrev cX3_clear : ByteArray := prog_6_method_2_code
def yX3_clear : MethodName := ⟨RX3, "clear", "()V"⟩
abbrev cX3_add : ByteArray := prog_6_method_3_code
def yX3_add : MethodName := ⟨RX3, "add", "(I)V"⟩
theorem q254 : (Jvm.Cond.initialized "SafeCode$Ints") ∈ lw_all := lw_g (lw_at lw_m1 8 rfl) rfl
theorem q369 : (Jvm.Cond.instantiable "SafeCode$Ints" (2 : Nat)) ∈ lw_all := lw_g (lw_at lw_m1 123 rfl) rfl
theorem q371 : (Jvm.Cond.instanceMethod ({ cls := "SafeCode$Ints", name := "<init>", desc := "()V" } : Jvm.MethodName)) ∈ lw_all := lw_g (lw_at lw_m1 125 rfl) rfl
theorem q372 : (Jvm.Cond.code ({ cls := "SafeCode$Ints", name := "<init>", desc := "()V" } : Jvm.MethodName) prog_6_method_1_code (1 : Nat) (Option.none : Option Jvm.ClassFile.FieldType)) ∈ lw_all := lw_g (lw_at lw_m1 126 rfl) rfl
theorem q373 : (Jvm.Cond.methodLink "SafeCode$Ints" (1 : Nat) ({ cls := "java/lang/Object", name := "<init>", desc := "()V" } : Jvm.MethodName)) ∈ lw_all := lw_g (lw_at lw_m1 127 rfl) rfl
theorem q374 : (Jvm.Cond.fieldLink "SafeCode$Ints" (7 : Nat) "SafeCode$Ints" "row" "[I") ∈ lw_all := lw_g (lw_at lw_m1 128 rfl) rfl
theorem q377 : (Jvm.Cond.fieldLink "SafeCode$Ints" (13 : Nat) "SafeCode$Ints" "size" "I") ∈ lw_all := lw_g (lw_at lw_m1 131 rfl) rfl
theorem q381 : (Jvm.Cond.lays "SafeCode$Ints" "SafeCode$Ints" "row" "[I") ∈ lw_all := lw_g (lw_at lw_m1 135 rfl) rfl
theorem q382 : (Jvm.Cond.soleField "SafeCode$Ints" "row") ∈ lw_all := lw_g (lw_at lw_m1 136 rfl) rfl
theorem q383 : (Jvm.Cond.lays "SafeCode$Ints" "SafeCode$Ints" "size" "I") ∈ lw_all := lw_g (lw_at lw_m1 137 rfl) rfl
theorem q384 : (Jvm.Cond.soleField "SafeCode$Ints" "size") ∈ lw_all := lw_g (lw_at lw_m1 138 rfl) rfl
theorem q385 : (Jvm.Cond.superclass "SafeCode$Ints" "java/lang/Object") ∈ lw_all := lw_g (lw_at lw_m1 139 rfl) rfl
theorem q1084 : (Jvm.Cond.instanceMethod ({ cls := "SafeCode$Ints", name := "clear", desc := "()V" } : Jvm.MethodName)) ∈ lw_all := lw_g (lw_at lw_m4 118 rfl) rfl
theorem q1085 : (Jvm.Cond.selects "SafeCode$Ints" ({ cls := "SafeCode$Ints", name := "clear", desc := "()V" } : Jvm.MethodName) ({ cls := "SafeCode$Ints", name := "clear", desc := "()V" } : Jvm.MethodName)) ∈ lw_all := lw_g (lw_at lw_m4 119 rfl) rfl
theorem q1086 : (Jvm.Cond.code ({ cls := "SafeCode$Ints", name := "clear", desc := "()V" } : Jvm.MethodName) prog_6_method_2_code (1 : Nat) (Option.none : Option Jvm.ClassFile.FieldType)) ∈ lw_all := lw_g (lw_at lw_m4 120 rfl) rfl
theorem q1106 : (Jvm.Cond.instanceMethod ({ cls := "SafeCode$Ints", name := "add", desc := "(I)V" } : Jvm.MethodName)) ∈ lw_all := lw_g (lw_at lw_m4 140 rfl) rfl
theorem q1107 : (Jvm.Cond.selects "SafeCode$Ints" ({ cls := "SafeCode$Ints", name := "add", desc := "(I)V" } : Jvm.MethodName) ({ cls := "SafeCode$Ints", name := "add", desc := "(I)V" } : Jvm.MethodName)) ∈ lw_all := lw_g (lw_at lw_m4 141 rfl) rfl
theorem q1108 : (Jvm.Cond.code ({ cls := "SafeCode$Ints", name := "add", desc := "(I)V" } : Jvm.MethodName) prog_6_method_3_code (2 : Nat) (Option.none : Option Jvm.ClassFile.FieldType)) ∈ lw_all := lw_g (lw_at lw_m4 142 rfl) rfl
theorem q1109 : (Jvm.Cond.methodLink "SafeCode$Ints" (17 : Nat) ({ cls := "java/util/Arrays", name := "copyOf", desc := "([II)[I" } : Jvm.MethodName)) ∈ lw_all := lw_g (lw_at lw_m4 143 rfl) rfl
theorem in_X3 : ∀ w ∈ wsX30, w ∈ lw_all := lw_in wsX30 [381, 383] (by decide +kernel) (by decide +kernel)
/-! SafeCode$Syntax -/
def RX4 : String := "SafeCode$Syntax"
def TX4 : u_T := fun k => match k with
  | 0 => ("SafeCode$Syntax", "t", "LSafeCode$Tokens;", true)
  | 1 => ("SafeCode$Syntax", "fault", "LSafeCode$Fault;", true)
  | 2 => ("SafeCode$Syntax", "at", "I", false)
  | 3 => ("SafeCode$Syntax", "classes", "LSafeCode$Ints;", true)
  | 4 => ("SafeCode$Syntax", "memberEnds", "LSafeCode$Ints;", true)
  | 5 => ("SafeCode$Syntax", "kinds", "LSafeCode$Ints;", true)
  | 6 => ("SafeCode$Syntax", "names", "LSafeCode$Ints;", true)
  | 7 => ("SafeCode$Syntax", "typeCounts", "LSafeCode$Ints;", true)
  | 8 => ("SafeCode$Syntax", "lineEnds", "LSafeCode$Ints;", true)
  | 9 => ("SafeCode$Syntax", "closes", "LSafeCode$Ints;", true)
  | 10 => ("SafeCode$Syntax", "lineKinds", "LSafeCode$Ints;", true)
  | 11 => ("SafeCode$Syntax", "lines", "LSafeCode$Ints;", true)
  | _ => ("SafeCode$Syntax", "operations", "LSafeCode$Ints;", true)
def tyX4 : Nat → FieldType := fun k => match k with
  | 0 => .object "SafeCode$Tokens"
  | 1 => .object "SafeCode$Fault"
  | 2 => .int
  | 3 => .object "SafeCode$Ints"
  | 4 => .object "SafeCode$Ints"
  | 5 => .object "SafeCode$Ints"
  | 6 => .object "SafeCode$Ints"
  | 7 => .object "SafeCode$Ints"
  | 8 => .object "SafeCode$Ints"
  | 9 => .object "SafeCode$Ints"
  | 10 => .object "SafeCode$Ints"
  | 11 => .object "SafeCode$Ints"
  | _ => .object "SafeCode$Ints"
abbrev wsX40 : List Cond := u_ws RX4 TX4 13
theorem nmX4 : ∀ a, a < 13 → ∀ b, b < 13 → a ≠ b → (TX4 a).2.1 ≠ (TX4 b).2.1 := by decide +kernel
theorem tyX4_ok : ∀ k, k < 13 → parseFieldDescriptor (TX4 k).2.2.1 = some (tyX4 k) := by decide +kernel
abbrev cX4_init : ByteArray := prog_11_method_1_code
def yX4_init : MethodName := ⟨RX4, "<init>", "(LSafeCode$Tokens;LSafeCode$Fault;)V"⟩
abbrev cX4_read : ByteArray := prog_11_method_4_code
def yX4_read : MethodName := ⟨RX4, "read", "()V"⟩
abbrev cX4_clear : ByteArray := prog_11_method_3_code
def yX4_clear : MethodName := ⟨RX4, "clear", "()V"⟩
abbrev cX4_must : ByteArray := prog_11_method_2_code
def yX4_must : MethodName := ⟨RX4, "must", "(Z)V"⟩
abbrev cX4_member : ByteArray := prog_11_method_5_code
def yX4_member : MethodName := ⟨RX4, "member", "()V"⟩
abbrev cX4_body : ByteArray := prog_11_method_6_code
def yX4_body : MethodName := ⟨RX4, "body", "()V"⟩
abbrev cX4_line : ByteArray := prog_11_method_7_code
def yX4_line : MethodName := ⟨RX4, "line", "()V"⟩
abbrev cX4_operands : ByteArray := prog_11_method_8_code
def yX4_operands : MethodName := ⟨RX4, "operands", "(I)V"⟩
theorem q255 : (Jvm.Cond.initialized "SafeCode$Syntax") ∈ lw_all := lw_g (lw_at lw_m1 9 rfl) rfl
theorem q380 : (Jvm.Cond.fieldLink "SafeCode$Syntax" (99 : Nat) "SafeCode$Ints" "size" "I") ∈ lw_all := lw_g (lw_at lw_m1 134 rfl) rfl
theorem q403 : (Jvm.Cond.instantiable "SafeCode$Syntax" (13 : Nat)) ∈ lw_all := lw_g (lw_at lw_m1 157 rfl) rfl
theorem q405 : (Jvm.Cond.instanceMethod ({ cls := "SafeCode$Syntax", name := "<init>", desc := "(LSafeCode$Tokens;LSafeCode$Fault;)V" } : Jvm.MethodName)) ∈ lw_all := lw_g (lw_at lw_m1 159 rfl) rfl
theorem q406 : (Jvm.Cond.code ({ cls := "SafeCode$Syntax", name := "<init>", desc := "(LSafeCode$Tokens;LSafeCode$Fault;)V" } : Jvm.MethodName) prog_11_method_1_code (3 : Nat) (Option.none : Option Jvm.ClassFile.FieldType)) ∈ lw_all := lw_g (lw_at lw_m1 160 rfl) rfl
theorem q407 : (Jvm.Cond.methodLink "SafeCode$Syntax" (3 : Nat) ({ cls := "java/lang/Object", name := "<init>", desc := "()V" } : Jvm.MethodName)) ∈ lw_all := lw_g (lw_at lw_m1 161 rfl) rfl
theorem q408 : (Jvm.Cond.classLink "SafeCode$Syntax" (9 : Nat) "SafeCode$Ints") ∈ lw_all := lw_g (lw_at lw_m1 162 rfl) rfl
theorem q409 : (Jvm.Cond.methodLinkNest "SafeCode$Syntax" (11 : Nat) ({ cls := "SafeCode$Ints", name := "<init>", desc := "()V" } : Jvm.MethodName) "SafeCode") ∈ lw_tbl := lw_at lw_m1 163 rfl
theorem q410 : (Jvm.Cond.fieldLink "SafeCode$Syntax" (45 : Nat) "SafeCode$Syntax" "t" "LSafeCode$Tokens;") ∈ lw_all := lw_g (lw_at lw_m1 164 rfl) rfl
theorem q411 : (Jvm.Cond.fieldLink "SafeCode$Syntax" (49 : Nat) "SafeCode$Syntax" "fault" "LSafeCode$Fault;") ∈ lw_all := lw_g (lw_at lw_m1 165 rfl) rfl
theorem q412 : (Jvm.Cond.fieldLink "SafeCode$Syntax" (53 : Nat) "SafeCode$Syntax" "at" "I") ∈ lw_all := lw_g (lw_at lw_m1 166 rfl) rfl
theorem q413 : (Jvm.Cond.fieldLink "SafeCode$Syntax" (12 : Nat) "SafeCode$Syntax" "classes" "LSafeCode$Ints;") ∈ lw_all := lw_g (lw_at lw_m1 167 rfl) rfl
theorem q415 : (Jvm.Cond.fieldLink "SafeCode$Syntax" (18 : Nat) "SafeCode$Syntax" "memberEnds" "LSafeCode$Ints;") ∈ lw_all := lw_g (lw_at lw_m1 169 rfl) rfl
theorem q417 : (Jvm.Cond.fieldLink "SafeCode$Syntax" (21 : Nat) "SafeCode$Syntax" "kinds" "LSafeCode$Ints;") ∈ lw_all := lw_g (lw_at lw_m1 171 rfl) rfl
theorem q419 : (Jvm.Cond.fieldLink "SafeCode$Syntax" (24 : Nat) "SafeCode$Syntax" "names" "LSafeCode$Ints;") ∈ lw_all := lw_g (lw_at lw_m1 173 rfl) rfl
theorem q421 : (Jvm.Cond.fieldLink "SafeCode$Syntax" (27 : Nat) "SafeCode$Syntax" "typeCounts" "LSafeCode$Ints;") ∈ lw_all := lw_g (lw_at lw_m1 175 rfl) rfl
theorem q423 : (Jvm.Cond.fieldLink "SafeCode$Syntax" (30 : Nat) "SafeCode$Syntax" "lineEnds" "LSafeCode$Ints;") ∈ lw_all := lw_g (lw_at lw_m1 177 rfl) rfl
theorem q425 : (Jvm.Cond.fieldLink "SafeCode$Syntax" (33 : Nat) "SafeCode$Syntax" "closes" "LSafeCode$Ints;") ∈ lw_all := lw_g (lw_at lw_m1 179 rfl) rfl
theorem q427 : (Jvm.Cond.fieldLink "SafeCode$Syntax" (36 : Nat) "SafeCode$Syntax" "lineKinds" "LSafeCode$Ints;") ∈ lw_all := lw_g (lw_at lw_m1 181 rfl) rfl
theorem q429 : (Jvm.Cond.fieldLink "SafeCode$Syntax" (39 : Nat) "SafeCode$Syntax" "lines" "LSafeCode$Ints;") ∈ lw_all := lw_g (lw_at lw_m1 183 rfl) rfl
theorem q431 : (Jvm.Cond.fieldLink "SafeCode$Syntax" (42 : Nat) "SafeCode$Syntax" "operations" "LSafeCode$Ints;") ∈ lw_all := lw_g (lw_at lw_m1 185 rfl) rfl
theorem q433 : (Jvm.Cond.laysFinal "SafeCode$Syntax" "SafeCode$Syntax" "t" "LSafeCode$Tokens;") ∈ lw_all := lw_g (lw_at lw_m1 187 rfl) rfl
theorem q434 : (Jvm.Cond.soleField "SafeCode$Syntax" "t") ∈ lw_all := lw_g (lw_at lw_m1 188 rfl) rfl
theorem q435 : (Jvm.Cond.laysFinal "SafeCode$Syntax" "SafeCode$Syntax" "fault" "LSafeCode$Fault;") ∈ lw_all := lw_g (lw_at lw_m1 189 rfl) rfl
theorem q436 : (Jvm.Cond.soleField "SafeCode$Syntax" "fault") ∈ lw_all := lw_g (lw_at lw_m1 190 rfl) rfl
theorem q437 : (Jvm.Cond.lays "SafeCode$Syntax" "SafeCode$Syntax" "at" "I") ∈ lw_all := lw_g (lw_at lw_m1 191 rfl) rfl
theorem q438 : (Jvm.Cond.soleField "SafeCode$Syntax" "at") ∈ lw_all := lw_g (lw_at lw_m1 192 rfl) rfl
theorem q439 : (Jvm.Cond.laysFinal "SafeCode$Syntax" "SafeCode$Syntax" "classes" "LSafeCode$Ints;") ∈ lw_all := lw_g (lw_at lw_m1 193 rfl) rfl
theorem q440 : (Jvm.Cond.soleField "SafeCode$Syntax" "classes") ∈ lw_all := lw_g (lw_at lw_m1 194 rfl) rfl
theorem q441 : (Jvm.Cond.laysFinal "SafeCode$Syntax" "SafeCode$Syntax" "memberEnds" "LSafeCode$Ints;") ∈ lw_all := lw_g (lw_at lw_m1 195 rfl) rfl
theorem q442 : (Jvm.Cond.soleField "SafeCode$Syntax" "memberEnds") ∈ lw_all := lw_g (lw_at lw_m1 196 rfl) rfl
theorem q443 : (Jvm.Cond.laysFinal "SafeCode$Syntax" "SafeCode$Syntax" "kinds" "LSafeCode$Ints;") ∈ lw_all := lw_g (lw_at lw_m1 197 rfl) rfl
theorem q444 : (Jvm.Cond.soleField "SafeCode$Syntax" "kinds") ∈ lw_all := lw_g (lw_at lw_m1 198 rfl) rfl
theorem q445 : (Jvm.Cond.laysFinal "SafeCode$Syntax" "SafeCode$Syntax" "names" "LSafeCode$Ints;") ∈ lw_all := lw_g (lw_at lw_m1 199 rfl) rfl
theorem q446 : (Jvm.Cond.soleField "SafeCode$Syntax" "names") ∈ lw_all := lw_g (lw_at lw_m1 200 rfl) rfl
theorem q447 : (Jvm.Cond.laysFinal "SafeCode$Syntax" "SafeCode$Syntax" "typeCounts" "LSafeCode$Ints;") ∈ lw_all := lw_g (lw_at lw_m1 201 rfl) rfl
theorem q448 : (Jvm.Cond.soleField "SafeCode$Syntax" "typeCounts") ∈ lw_all := lw_g (lw_at lw_m1 202 rfl) rfl
theorem q449 : (Jvm.Cond.laysFinal "SafeCode$Syntax" "SafeCode$Syntax" "lineEnds" "LSafeCode$Ints;") ∈ lw_all := lw_g (lw_at lw_m1 203 rfl) rfl
theorem q450 : (Jvm.Cond.soleField "SafeCode$Syntax" "lineEnds") ∈ lw_all := lw_g (lw_at lw_m1 204 rfl) rfl
theorem q451 : (Jvm.Cond.laysFinal "SafeCode$Syntax" "SafeCode$Syntax" "closes" "LSafeCode$Ints;") ∈ lw_all := lw_g (lw_at lw_m1 205 rfl) rfl
theorem q452 : (Jvm.Cond.soleField "SafeCode$Syntax" "closes") ∈ lw_all := lw_g (lw_at lw_m1 206 rfl) rfl
theorem q453 : (Jvm.Cond.laysFinal "SafeCode$Syntax" "SafeCode$Syntax" "lineKinds" "LSafeCode$Ints;") ∈ lw_all := lw_g (lw_at lw_m1 207 rfl) rfl
theorem q454 : (Jvm.Cond.soleField "SafeCode$Syntax" "lineKinds") ∈ lw_all := lw_g (lw_at lw_m1 208 rfl) rfl
theorem q455 : (Jvm.Cond.laysFinal "SafeCode$Syntax" "SafeCode$Syntax" "lines" "LSafeCode$Ints;") ∈ lw_all := lw_g (lw_at lw_m1 209 rfl) rfl
theorem q456 : (Jvm.Cond.soleField "SafeCode$Syntax" "lines") ∈ lw_all := lw_g (lw_at lw_m1 210 rfl) rfl
theorem q457 : (Jvm.Cond.laysFinal "SafeCode$Syntax" "SafeCode$Syntax" "operations" "LSafeCode$Ints;") ∈ lw_all := lw_g (lw_at lw_m1 211 rfl) rfl
theorem q458 : (Jvm.Cond.soleField "SafeCode$Syntax" "operations") ∈ lw_all := lw_g (lw_at lw_m1 212 rfl) rfl
theorem q459 : (Jvm.Cond.superclass "SafeCode$Syntax" "java/lang/Object") ∈ lw_all := lw_g (lw_at lw_m1 213 rfl) rfl
theorem q1133 : (Jvm.Cond.instanceMethod ({ cls := "SafeCode$Syntax", name := "read", desc := "()V" } : Jvm.MethodName)) ∈ lw_all := lw_g (lw_at lw_m4 167 rfl) rfl
theorem q1134 : (Jvm.Cond.selects "SafeCode$Syntax" ({ cls := "SafeCode$Syntax", name := "read", desc := "()V" } : Jvm.MethodName) ({ cls := "SafeCode$Syntax", name := "read", desc := "()V" } : Jvm.MethodName)) ∈ lw_all := lw_g (lw_at lw_m4 168 rfl) rfl
theorem q1135 : (Jvm.Cond.code ({ cls := "SafeCode$Syntax", name := "read", desc := "()V" } : Jvm.MethodName) prog_11_method_4_code (1 : Nat) (Option.none : Option Jvm.ClassFile.FieldType)) ∈ lw_all := lw_g (lw_at lw_m4 169 rfl) rfl
theorem q1136 : (Jvm.Cond.methodLink "SafeCode$Syntax" (71 : Nat) ({ cls := "SafeCode$Syntax", name := "clear", desc := "()V" } : Jvm.MethodName)) ∈ lw_all := lw_g (lw_at lw_m4 170 rfl) rfl
theorem q1137 : (Jvm.Cond.instanceMethod ({ cls := "SafeCode$Syntax", name := "clear", desc := "()V" } : Jvm.MethodName)) ∈ lw_all := lw_g (lw_at lw_m4 171 rfl) rfl
theorem q1138 : (Jvm.Cond.selects "SafeCode$Syntax" ({ cls := "SafeCode$Syntax", name := "clear", desc := "()V" } : Jvm.MethodName) ({ cls := "SafeCode$Syntax", name := "clear", desc := "()V" } : Jvm.MethodName)) ∈ lw_all := lw_g (lw_at lw_m4 172 rfl) rfl
theorem q1139 : (Jvm.Cond.code ({ cls := "SafeCode$Syntax", name := "clear", desc := "()V" } : Jvm.MethodName) prog_11_method_3_code (1 : Nat) (Option.none : Option Jvm.ClassFile.FieldType)) ∈ lw_all := lw_g (lw_at lw_m4 173 rfl) rfl
theorem q1140 : (Jvm.Cond.methodLink "SafeCode$Syntax" (68 : Nat) ({ cls := "SafeCode$Ints", name := "clear", desc := "()V" } : Jvm.MethodName)) ∈ lw_all := lw_g (lw_at lw_m4 174 rfl) rfl
theorem q1141 : (Jvm.Cond.methodLink "SafeCode$Syntax" (57 : Nat) ({ cls := "SafeCode$Tokens", name := "size", desc := "()I" } : Jvm.MethodName)) ∈ lw_all := lw_g (lw_at lw_m4 175 rfl) rfl
theorem q1142 : (Jvm.Cond.stringRef "SafeCode$Syntax" (72 : Nat) "class") ∈ lw_tbl := lw_at lw_m4 176 rfl
theorem q1143 : (Jvm.Cond.methodLink "SafeCode$Syntax" (74 : Nat) ({ cls := "SafeCode$Tokens", name := "is", desc := "(ILjava/lang/String;)Z" } : Jvm.MethodName)) ∈ lw_all := lw_g (lw_at lw_m4 177 rfl) rfl
theorem q1199 : (Jvm.Cond.methodLink "SafeCode$Syntax" (78 : Nat) ({ cls := "SafeCode$Syntax", name := "must", desc := "(Z)V" } : Jvm.MethodName)) ∈ lw_all := lw_g (lw_at lw_m4 233 rfl) rfl
theorem q1200 : (Jvm.Cond.privateMethod ({ cls := "SafeCode$Syntax", name := "must", desc := "(Z)V" } : Jvm.MethodName)) ∈ lw_tbl := lw_at lw_m4 234 rfl
theorem q1201 : (Jvm.Cond.instanceMethod ({ cls := "SafeCode$Syntax", name := "must", desc := "(Z)V" } : Jvm.MethodName)) ∈ lw_all := lw_g (lw_at lw_m4 235 rfl) rfl
theorem q1202 : (Jvm.Cond.code ({ cls := "SafeCode$Syntax", name := "must", desc := "(Z)V" } : Jvm.MethodName) prog_11_method_2_code (2 : Nat) (Option.none : Option Jvm.ClassFile.FieldType)) ∈ lw_all := lw_g (lw_at lw_m4 236 rfl) rfl
theorem q1203 : (Jvm.Cond.methodLink "SafeCode$Syntax" (63 : Nat) ({ cls := "SafeCode$Fault", name := "at", desc := "(II)Ljava/lang/IllegalStateException;" } : Jvm.MethodName)) ∈ lw_all := lw_g (lw_at lw_m4 237 rfl) rfl
theorem q1204 : (Jvm.Cond.methodLink "SafeCode$Syntax" (82 : Nat) ({ cls := "SafeCode$Tokens", name := "isClassName", desc := "(I)Z" } : Jvm.MethodName)) ∈ lw_all := lw_g (lw_at lw_m4 238 rfl) rfl
theorem q1212 : (Jvm.Cond.methodLink "SafeCode$Syntax" (86 : Nat) ({ cls := "SafeCode$Ints", name := "add", desc := "(I)V" } : Jvm.MethodName)) ∈ lw_all := lw_g (lw_at lw_m5 6 rfl) rfl
theorem q1213 : (Jvm.Cond.stringRef "SafeCode$Syntax" (90 : Nat) "of") ∈ lw_tbl := lw_at lw_m5 7 rfl
theorem q1214 : (Jvm.Cond.stringRef "SafeCode$Syntax" (92 : Nat) "{") ∈ lw_tbl := lw_at lw_m5 8 rfl
theorem q1215 : (Jvm.Cond.stringRef "SafeCode$Syntax" (94 : Nat) "}") ∈ lw_tbl := lw_at lw_m5 9 rfl
theorem q1216 : (Jvm.Cond.methodLink "SafeCode$Syntax" (96 : Nat) ({ cls := "SafeCode$Syntax", name := "member", desc := "()V" } : Jvm.MethodName)) ∈ lw_all := lw_g (lw_at lw_m5 10 rfl) rfl
theorem q1217 : (Jvm.Cond.privateMethod ({ cls := "SafeCode$Syntax", name := "member", desc := "()V" } : Jvm.MethodName)) ∈ lw_tbl := lw_at lw_m5 11 rfl
theorem q1218 : (Jvm.Cond.instanceMethod ({ cls := "SafeCode$Syntax", name := "member", desc := "()V" } : Jvm.MethodName)) ∈ lw_all := lw_g (lw_at lw_m5 12 rfl) rfl
theorem q1219 : (Jvm.Cond.code ({ cls := "SafeCode$Syntax", name := "member", desc := "()V" } : Jvm.MethodName) prog_11_method_5_code (2 : Nat) (Option.none : Option Jvm.ClassFile.FieldType)) ∈ lw_all := lw_g (lw_at lw_m5 13 rfl) rfl
theorem q1220 : (Jvm.Cond.stringRef "SafeCode$Syntax" (101 : Nat) "field") ∈ lw_tbl := lw_at lw_m5 14 rfl
theorem q1221 : (Jvm.Cond.stringRef "SafeCode$Syntax" (103 : Nat) "static") ∈ lw_tbl := lw_at lw_m5 15 rfl
theorem q1222 : (Jvm.Cond.stringRef "SafeCode$Syntax" (105 : Nat) "method") ∈ lw_tbl := lw_at lw_m5 16 rfl
theorem q1223 : (Jvm.Cond.methodLink "SafeCode$Syntax" (107 : Nat) ({ cls := "SafeCode$Tokens", name := "isName", desc := "(I)Z" } : Jvm.MethodName)) ∈ lw_all := lw_g (lw_at lw_m5 17 rfl) rfl
theorem q1227 : (Jvm.Cond.methodLink "SafeCode$Syntax" (110 : Nat) ({ cls := "SafeCode$Tokens", name := "isType", desc := "(I)Z" } : Jvm.MethodName)) ∈ lw_all := lw_g (lw_at lw_m5 21 rfl) rfl
theorem q1244 : (Jvm.Cond.methodLink "SafeCode$Syntax" (113 : Nat) ({ cls := "SafeCode$Syntax", name := "body", desc := "()V" } : Jvm.MethodName)) ∈ lw_all := lw_g (lw_at lw_m5 38 rfl) rfl
theorem q1245 : (Jvm.Cond.privateMethod ({ cls := "SafeCode$Syntax", name := "body", desc := "()V" } : Jvm.MethodName)) ∈ lw_tbl := lw_at lw_m5 39 rfl
theorem q1246 : (Jvm.Cond.instanceMethod ({ cls := "SafeCode$Syntax", name := "body", desc := "()V" } : Jvm.MethodName)) ∈ lw_all := lw_g (lw_at lw_m5 40 rfl) rfl
theorem q1247 : (Jvm.Cond.code ({ cls := "SafeCode$Syntax", name := "body", desc := "()V" } : Jvm.MethodName) prog_11_method_6_code (2 : Nat) (Option.none : Option Jvm.ClassFile.FieldType)) ∈ lw_all := lw_g (lw_at lw_m5 41 rfl) rfl
theorem q1248 : (Jvm.Cond.stringRef "SafeCode$Syntax" (116 : Nat) "(") ∈ lw_tbl := lw_at lw_m5 42 rfl
theorem q1249 : (Jvm.Cond.stringRef "SafeCode$Syntax" (118 : Nat) ")") ∈ lw_tbl := lw_at lw_m5 43 rfl
theorem q1250 : (Jvm.Cond.stringRef "SafeCode$Syntax" (120 : Nat) "none") ∈ lw_tbl := lw_at lw_m5 44 rfl
theorem q1251 : (Jvm.Cond.methodLink "SafeCode$Syntax" (122 : Nat) ({ cls := "SafeCode$Tokens", name := "isNumber", desc := "(I)Z" } : Jvm.MethodName)) ∈ lw_all := lw_g (lw_at lw_m5 45 rfl) rfl
theorem q1263 : (Jvm.Cond.methodLink "SafeCode$Syntax" (125 : Nat) ({ cls := "SafeCode$Syntax", name := "line", desc := "()V" } : Jvm.MethodName)) ∈ lw_all := lw_g (lw_at lw_m5 57 rfl) rfl
theorem q1264 : (Jvm.Cond.privateMethod ({ cls := "SafeCode$Syntax", name := "line", desc := "()V" } : Jvm.MethodName)) ∈ lw_tbl := lw_at lw_m5 58 rfl
theorem q1265 : (Jvm.Cond.instanceMethod ({ cls := "SafeCode$Syntax", name := "line", desc := "()V" } : Jvm.MethodName)) ∈ lw_all := lw_g (lw_at lw_m5 59 rfl) rfl
theorem q1266 : (Jvm.Cond.code ({ cls := "SafeCode$Syntax", name := "line", desc := "()V" } : Jvm.MethodName) prog_11_method_7_code (3 : Nat) (Option.none : Option Jvm.ClassFile.FieldType)) ∈ lw_all := lw_g (lw_at lw_m5 60 rfl) rfl
theorem q1267 : (Jvm.Cond.stringRef "SafeCode$Syntax" (128 : Nat) ":") ∈ lw_tbl := lw_at lw_m5 61 rfl
theorem q1268 : (Jvm.Cond.stringRef "SafeCode$Syntax" (130 : Nat) "catch") ∈ lw_tbl := lw_at lw_m5 62 rfl
theorem q1269 : (Jvm.Cond.stringRef "SafeCode$Syntax" (132 : Nat) "push null load store inc dup pop swap add sub mul div rem and or xor shl shr neg goto eq ne lt le gt ge isnull notnull same other new array length aload astore get put cast is call send throw give back read write ") ∈ lw_tbl := lw_at lw_m5 63 rfl
theorem q1270 : (Jvm.Cond.methodLink "SafeCode$Syntax" (134 : Nat) ({ cls := "SafeCode$Tokens", name := "word", desc := "(ILjava/lang/String;)I" } : Jvm.MethodName)) ∈ lw_all := lw_g (lw_at lw_m5 64 rfl) rfl
theorem q1278 : (Jvm.Cond.methodLink "SafeCode$Syntax" (138 : Nat) ({ cls := "SafeCode$Syntax", name := "operands", desc := "(I)V" } : Jvm.MethodName)) ∈ lw_all := lw_g (lw_at lw_m5 72 rfl) rfl
theorem q1279 : (Jvm.Cond.privateMethod ({ cls := "SafeCode$Syntax", name := "operands", desc := "(I)V" } : Jvm.MethodName)) ∈ lw_tbl := lw_at lw_m5 73 rfl
theorem q1280 : (Jvm.Cond.instanceMethod ({ cls := "SafeCode$Syntax", name := "operands", desc := "(I)V" } : Jvm.MethodName)) ∈ lw_all := lw_g (lw_at lw_m5 74 rfl) rfl
theorem q1281 : (Jvm.Cond.code ({ cls := "SafeCode$Syntax", name := "operands", desc := "(I)V" } : Jvm.MethodName) prog_11_method_8_code (2 : Nat) (Option.none : Option Jvm.ClassFile.FieldType)) ∈ lw_all := lw_g (lw_at lw_m5 75 rfl) rfl
theorem q1282 : (Jvm.Cond.stringRef "SafeCode$Syntax" (141 : Nat) "int") ∈ lw_tbl := lw_at lw_m5 76 rfl
theorem q1283 : (Jvm.Cond.methodLink "SafeCode$Syntax" (143 : Nat) ({ cls := "SafeCode$Tokens", name := "point", desc := "(I)I" } : Jvm.MethodName)) ∈ lw_all := lw_g (lw_at lw_m5 77 rfl) rfl
theorem in_X4 : ∀ w ∈ wsX40, w ∈ lw_all := lw_in wsX40 [433, 435, 437, 439, 441, 443, 445, 447, 449, 451, 453, 455, 457] (by decide +kernel) (by decide +kernel)
/-! SafeCode$Loader -/
def RX5 : String := "SafeCode$Loader"
def TX5 : u_T := fun k => match k with
  | 0 => ("SafeCode$Loader", "t", "LSafeCode$Tokens;", true)
  | 1 => ("SafeCode$Loader", "s", "LSafeCode$Syntax;", true)
  | 2 => ("SafeCode$Loader", "fault", "LSafeCode$Fault;", true)
  | 3 => ("SafeCode$Loader", "p", "LSafeCode$Program;", false)
  | 4 => ("SafeCode$Loader", "fieldName", "[I", true)
  | 5 => ("SafeCode$Loader", "bodyToken", "[I", true)
  | 6 => ("SafeCode$Loader", "bodyMember", "[I", true)
  | 7 => ("SafeCode$Loader", "labels", "LSafeCode$Ints;", true)
  | _ => ("SafeCode$Loader", "places", "LSafeCode$Ints;", true)
def tyX5 : Nat → FieldType := fun k => match k with
  | 0 => .object "SafeCode$Tokens"
  | 1 => .object "SafeCode$Syntax"
  | 2 => .object "SafeCode$Fault"
  | 3 => .object "SafeCode$Program"
  | 4 => .array .int
  | 5 => .array .int
  | 6 => .array .int
  | 7 => .object "SafeCode$Ints"
  | _ => .object "SafeCode$Ints"
abbrev wsX50 : List Cond := u_ws RX5 TX5 9
theorem nmX5 : ∀ a, a < 9 → ∀ b, b < 9 → a ≠ b → (TX5 a).2.1 ≠ (TX5 b).2.1 := by decide +kernel
theorem tyX5_ok : ∀ k, k < 9 → parseFieldDescriptor (TX5 k).2.2.1 = some (tyX5 k) := by decide +kernel
abbrev cX5_init : ByteArray := prog_7_method_1_code
def yX5_init : MethodName := ⟨RX5, "<init>", "(LSafeCode$Tokens;LSafeCode$Syntax;LSafeCode$Fault;)V"⟩
abbrev cX5_load : ByteArray := prog_7_method_3_code
def yX5_load : MethodName := ⟨RX5, "load", "(LSafeCode$Program;)V"⟩
abbrev cX5_readClass : ByteArray := prog_7_method_6_code
def yX5_readClass : MethodName := ⟨RX5, "readClass", "(I)V"⟩
abbrev cX5_classOf : ByteArray := prog_7_method_5_code
def yX5_classOf : MethodName := ⟨RX5, "classOf", "(I)I"⟩
abbrev cX5_classAt : ByteArray := prog_7_method_4_code
def yX5_classAt : MethodName := ⟨RX5, "classAt", "(II)I"⟩
abbrev cX5_must : ByteArray := prog_7_method_2_code
def yX5_must : MethodName := ⟨RX5, "must", "(ZI)V"⟩
abbrev cX5_readMember : ByteArray := prog_7_method_12_code
def yX5_readMember : MethodName := ⟨RX5, "readMember", "(II)V"⟩
abbrev cX5_readField : ByteArray := prog_7_method_14_code
def yX5_readField : MethodName := ⟨RX5, "readField", "(II)V"⟩
abbrev cX5_field : ByteArray := prog_7_method_9_code
def yX5_field : MethodName := ⟨RX5, "field", "(III)I"⟩
abbrev cX5_typeMust : ByteArray := prog_7_method_8_code
def yX5_typeMust : MethodName := ⟨RX5, "typeMust", "(I)I"⟩
abbrev cX5_typeOf : ByteArray := prog_7_method_7_code
def yX5_typeOf : MethodName := ⟨RX5, "typeOf", "(I)I"⟩
abbrev cX5_fieldsAbove : ByteArray := prog_7_method_13_code
def yX5_fieldsAbove : MethodName := ⟨RX5, "fieldsAbove", "(I)I"⟩
abbrev cX5_readHead : ByteArray := prog_7_method_16_code
def yX5_readHead : MethodName := ⟨RX5, "readHead", "(III)V"⟩
abbrev cX5_nearestBody : ByteArray := prog_7_method_11_code
def yX5_nearestBody : MethodName := ⟨RX5, "nearestBody", "(III)I"⟩
abbrev cX5_bodyIn : ByteArray := prog_7_method_10_code
def yX5_bodyIn : MethodName := ⟨RX5, "bodyIn", "(III)I"⟩
abbrev cX5_isSameHead : ByteArray := prog_7_method_17_code
def yX5_isSameHead : MethodName := ⟨RX5, "isSameHead", "(II)Z"⟩
abbrev cX5_firstType : ByteArray := prog_7_method_15_code
def yX5_firstType : MethodName := ⟨RX5, "firstType", "(I)I"⟩
abbrev cX5_readBody : ByteArray := prog_7_method_21_code
def yX5_readBody : MethodName := ⟨RX5, "readBody", "(I)V"⟩
abbrev cX5_linesBefore : ByteArray := prog_7_method_18_code
def yX5_linesBefore : MethodName := ⟨RX5, "linesBefore", "(I)I"⟩
abbrev cX5_findLabels : ByteArray := prog_7_method_20_code
def yX5_findLabels : MethodName := ⟨RX5, "findLabels", "(II)V"⟩
abbrev cX5_readCatch : ByteArray := prog_7_method_22_code
def yX5_readCatch : MethodName := ⟨RX5, "readCatch", "(II)V"⟩
abbrev cX5_label : ByteArray := prog_7_method_19_code
def yX5_label : MethodName := ⟨RX5, "label", "(I)I"⟩
abbrev cX5_readInstruction : ByteArray := prog_7_method_23_code
def yX5_readInstruction : MethodName := ⟨RX5, "readInstruction", "(IIII)V"⟩
abbrev cX5_operand : ByteArray := prog_7_method_24_code
def yX5_operand : MethodName := ⟨RX5, "operand", "(IIII)I"⟩
abbrev cX5_member : ByteArray := prog_7_method_25_code
def yX5_member : MethodName := ⟨RX5, "member", "(II)I"⟩
abbrev cX5_findMain : ByteArray := prog_7_method_26_code
def yX5_findMain : MethodName := ⟨RX5, "findMain", "()V"⟩
theorem q256 : (Jvm.Cond.initialized "SafeCode$Loader") ∈ lw_all := lw_g (lw_at lw_m1 10 rfl) rfl
theorem q375 : (Jvm.Cond.fieldLink "SafeCode$Loader" (74 : Nat) "SafeCode$Ints" "row" "[I") ∈ lw_all := lw_g (lw_at lw_m1 129 rfl) rfl
theorem q379 : (Jvm.Cond.fieldLink "SafeCode$Loader" (63 : Nat) "SafeCode$Ints" "size" "I") ∈ lw_all := lw_g (lw_at lw_m1 133 rfl) rfl
theorem q390 : (Jvm.Cond.fieldLink "SafeCode$Loader" (98 : Nat) "SafeCode$Tokens" "from" "LSafeCode$Ints;") ∈ lw_all := lw_g (lw_at lw_m1 144 rfl) rfl
theorem q392 : (Jvm.Cond.fieldLink "SafeCode$Loader" (101 : Nat) "SafeCode$Tokens" "to" "LSafeCode$Ints;") ∈ lw_all := lw_g (lw_at lw_m1 146 rfl) rfl
theorem q414 : (Jvm.Cond.fieldLink "SafeCode$Loader" (58 : Nat) "SafeCode$Syntax" "classes" "LSafeCode$Ints;") ∈ lw_all := lw_g (lw_at lw_m1 168 rfl) rfl
theorem q416 : (Jvm.Cond.fieldLink "SafeCode$Loader" (71 : Nat) "SafeCode$Syntax" "memberEnds" "LSafeCode$Ints;") ∈ lw_all := lw_g (lw_at lw_m1 170 rfl) rfl
theorem q418 : (Jvm.Cond.fieldLink "SafeCode$Loader" (151 : Nat) "SafeCode$Syntax" "kinds" "LSafeCode$Ints;") ∈ lw_all := lw_g (lw_at lw_m1 172 rfl) rfl
theorem q420 : (Jvm.Cond.fieldLink "SafeCode$Loader" (148 : Nat) "SafeCode$Syntax" "names" "LSafeCode$Ints;") ∈ lw_all := lw_g (lw_at lw_m1 174 rfl) rfl
theorem q422 : (Jvm.Cond.fieldLink "SafeCode$Loader" (190 : Nat) "SafeCode$Syntax" "typeCounts" "LSafeCode$Ints;") ∈ lw_all := lw_g (lw_at lw_m1 176 rfl) rfl
theorem q424 : (Jvm.Cond.fieldLink "SafeCode$Loader" (223 : Nat) "SafeCode$Syntax" "lineEnds" "LSafeCode$Ints;") ∈ lw_all := lw_g (lw_at lw_m1 178 rfl) rfl
theorem q426 : (Jvm.Cond.fieldLink "SafeCode$Loader" (262 : Nat) "SafeCode$Syntax" "closes" "LSafeCode$Ints;") ∈ lw_all := lw_g (lw_at lw_m1 180 rfl) rfl
theorem q428 : (Jvm.Cond.fieldLink "SafeCode$Loader" (228 : Nat) "SafeCode$Syntax" "lineKinds" "LSafeCode$Ints;") ∈ lw_all := lw_g (lw_at lw_m1 182 rfl) rfl
theorem q430 : (Jvm.Cond.fieldLink "SafeCode$Loader" (231 : Nat) "SafeCode$Syntax" "lines" "LSafeCode$Ints;") ∈ lw_all := lw_g (lw_at lw_m1 184 rfl) rfl
theorem q432 : (Jvm.Cond.fieldLink "SafeCode$Loader" (249 : Nat) "SafeCode$Syntax" "operations" "LSafeCode$Ints;") ∈ lw_all := lw_g (lw_at lw_m1 186 rfl) rfl
theorem q461 : (Jvm.Cond.instantiable "SafeCode$Loader" (9 : Nat)) ∈ lw_all := lw_g (lw_at lw_m1 215 rfl) rfl
theorem q463 : (Jvm.Cond.instanceMethod ({ cls := "SafeCode$Loader", name := "<init>", desc := "(LSafeCode$Tokens;LSafeCode$Syntax;LSafeCode$Fault;)V" } : Jvm.MethodName)) ∈ lw_all := lw_g (lw_at lw_m1 217 rfl) rfl
theorem q464 : (Jvm.Cond.code ({ cls := "SafeCode$Loader", name := "<init>", desc := "(LSafeCode$Tokens;LSafeCode$Syntax;LSafeCode$Fault;)V" } : Jvm.MethodName) prog_7_method_1_code (4 : Nat) (Option.none : Option Jvm.ClassFile.FieldType)) ∈ lw_all := lw_g (lw_at lw_m1 218 rfl) rfl
theorem q465 : (Jvm.Cond.methodLink "SafeCode$Loader" (3 : Nat) ({ cls := "java/lang/Object", name := "<init>", desc := "()V" } : Jvm.MethodName)) ∈ lw_all := lw_g (lw_at lw_m1 219 rfl) rfl
theorem q466 : (Jvm.Cond.classLink "SafeCode$Loader" (21 : Nat) "SafeCode$Ints") ∈ lw_all := lw_g (lw_at lw_m1 220 rfl) rfl
theorem q467 : (Jvm.Cond.methodLinkNest "SafeCode$Loader" (23 : Nat) ({ cls := "SafeCode$Ints", name := "<init>", desc := "()V" } : Jvm.MethodName) "SafeCode") ∈ lw_tbl := lw_at lw_m1 221 rfl
theorem q468 : (Jvm.Cond.fieldLink "SafeCode$Loader" (31 : Nat) "SafeCode$Loader" "t" "LSafeCode$Tokens;") ∈ lw_all := lw_g (lw_at lw_m1 222 rfl) rfl
theorem q469 : (Jvm.Cond.fieldLink "SafeCode$Loader" (35 : Nat) "SafeCode$Loader" "s" "LSafeCode$Syntax;") ∈ lw_all := lw_g (lw_at lw_m1 223 rfl) rfl
theorem q470 : (Jvm.Cond.fieldLink "SafeCode$Loader" (39 : Nat) "SafeCode$Loader" "fault" "LSafeCode$Fault;") ∈ lw_all := lw_g (lw_at lw_m1 224 rfl) rfl
theorem q471 : (Jvm.Cond.fieldLink "SafeCode$Loader" (49 : Nat) "SafeCode$Loader" "p" "LSafeCode$Program;") ∈ lw_all := lw_g (lw_at lw_m1 225 rfl) rfl
theorem q472 : (Jvm.Cond.fieldLink "SafeCode$Loader" (9 : Nat) "SafeCode$Loader" "fieldName" "[I") ∈ lw_all := lw_g (lw_at lw_m1 226 rfl) rfl
theorem q473 : (Jvm.Cond.fieldLink "SafeCode$Loader" (15 : Nat) "SafeCode$Loader" "bodyToken" "[I") ∈ lw_all := lw_g (lw_at lw_m1 227 rfl) rfl
theorem q474 : (Jvm.Cond.fieldLink "SafeCode$Loader" (18 : Nat) "SafeCode$Loader" "bodyMember" "[I") ∈ lw_all := lw_g (lw_at lw_m1 228 rfl) rfl
theorem q475 : (Jvm.Cond.fieldLink "SafeCode$Loader" (24 : Nat) "SafeCode$Loader" "labels" "LSafeCode$Ints;") ∈ lw_all := lw_g (lw_at lw_m1 229 rfl) rfl
theorem q476 : (Jvm.Cond.fieldLink "SafeCode$Loader" (28 : Nat) "SafeCode$Loader" "places" "LSafeCode$Ints;") ∈ lw_all := lw_g (lw_at lw_m1 230 rfl) rfl
theorem q477 : (Jvm.Cond.laysFinal "SafeCode$Loader" "SafeCode$Loader" "t" "LSafeCode$Tokens;") ∈ lw_all := lw_g (lw_at lw_m1 231 rfl) rfl
theorem q478 : (Jvm.Cond.soleField "SafeCode$Loader" "t") ∈ lw_all := lw_g (lw_at lw_m1 232 rfl) rfl
theorem q479 : (Jvm.Cond.laysFinal "SafeCode$Loader" "SafeCode$Loader" "s" "LSafeCode$Syntax;") ∈ lw_all := lw_g (lw_at lw_m1 233 rfl) rfl
theorem q480 : (Jvm.Cond.soleField "SafeCode$Loader" "s") ∈ lw_all := lw_g (lw_at lw_m1 234 rfl) rfl
theorem q481 : (Jvm.Cond.laysFinal "SafeCode$Loader" "SafeCode$Loader" "fault" "LSafeCode$Fault;") ∈ lw_all := lw_g (lw_at lw_m1 235 rfl) rfl
theorem q482 : (Jvm.Cond.soleField "SafeCode$Loader" "fault") ∈ lw_all := lw_g (lw_at lw_m1 236 rfl) rfl
theorem q483 : (Jvm.Cond.lays "SafeCode$Loader" "SafeCode$Loader" "p" "LSafeCode$Program;") ∈ lw_all := lw_g (lw_at lw_m1 237 rfl) rfl
theorem q484 : (Jvm.Cond.soleField "SafeCode$Loader" "p") ∈ lw_all := lw_g (lw_at lw_m1 238 rfl) rfl
theorem q485 : (Jvm.Cond.laysFinal "SafeCode$Loader" "SafeCode$Loader" "fieldName" "[I") ∈ lw_all := lw_g (lw_at lw_m1 239 rfl) rfl
theorem q486 : (Jvm.Cond.soleField "SafeCode$Loader" "fieldName") ∈ lw_all := lw_g (lw_at lw_m2 0 rfl) rfl
theorem q487 : (Jvm.Cond.laysFinal "SafeCode$Loader" "SafeCode$Loader" "bodyToken" "[I") ∈ lw_all := lw_g (lw_at lw_m2 1 rfl) rfl
theorem q488 : (Jvm.Cond.soleField "SafeCode$Loader" "bodyToken") ∈ lw_all := lw_g (lw_at lw_m2 2 rfl) rfl
theorem q489 : (Jvm.Cond.laysFinal "SafeCode$Loader" "SafeCode$Loader" "bodyMember" "[I") ∈ lw_all := lw_g (lw_at lw_m2 3 rfl) rfl
theorem q490 : (Jvm.Cond.soleField "SafeCode$Loader" "bodyMember") ∈ lw_all := lw_g (lw_at lw_m2 4 rfl) rfl
theorem q491 : (Jvm.Cond.laysFinal "SafeCode$Loader" "SafeCode$Loader" "labels" "LSafeCode$Ints;") ∈ lw_all := lw_g (lw_at lw_m2 5 rfl) rfl
theorem q492 : (Jvm.Cond.soleField "SafeCode$Loader" "labels") ∈ lw_all := lw_g (lw_at lw_m2 6 rfl) rfl
theorem q493 : (Jvm.Cond.laysFinal "SafeCode$Loader" "SafeCode$Loader" "places" "LSafeCode$Ints;") ∈ lw_all := lw_g (lw_at lw_m2 7 rfl) rfl
theorem q494 : (Jvm.Cond.soleField "SafeCode$Loader" "places") ∈ lw_all := lw_g (lw_at lw_m2 8 rfl) rfl
theorem q495 : (Jvm.Cond.superclass "SafeCode$Loader" "java/lang/Object") ∈ lw_all := lw_g (lw_at lw_m2 9 rfl) rfl
theorem q811 : (Jvm.Cond.fieldLink "SafeCode$Loader" (96 : Nat) "SafeCode$Program" "classes" "I") ∈ lw_all := lw_g (lw_at lw_m3 85 rfl) rfl
theorem q814 : (Jvm.Cond.fieldLink "SafeCode$Loader" (119 : Nat) "SafeCode$Program" "above" "[I") ∈ lw_all := lw_g (lw_at lw_m3 88 rfl) rfl
theorem q816 : (Jvm.Cond.fieldLink "SafeCode$Loader" (135 : Nat) "SafeCode$Program" "fields" "I") ∈ lw_all := lw_g (lw_at lw_m3 90 rfl) rfl
theorem q819 : (Jvm.Cond.fieldLink "SafeCode$Loader" (138 : Nat) "SafeCode$Program" "fieldClass" "[I") ∈ lw_all := lw_g (lw_at lw_m3 93 rfl) rfl
theorem q823 : (Jvm.Cond.fieldLink "SafeCode$Loader" (168 : Nat) "SafeCode$Program" "fieldType" "[I") ∈ lw_all := lw_g (lw_at lw_m3 97 rfl) rfl
theorem q826 : (Jvm.Cond.fieldLink "SafeCode$Loader" (174 : Nat) "SafeCode$Program" "fieldPlace" "[I") ∈ lw_all := lw_g (lw_at lw_m3 100 rfl) rfl
theorem q831 : (Jvm.Cond.fieldLink "SafeCode$Loader" (321 : Nat) "SafeCode$Program" "fieldCount" "[I") ∈ lw_all := lw_g (lw_at lw_m3 105 rfl) rfl
theorem q834 : (Jvm.Cond.fieldLink "SafeCode$Loader" (81 : Nat) "SafeCode$Program" "bodies" "I") ∈ lw_all := lw_g (lw_at lw_m3 108 rfl) rfl
theorem q837 : (Jvm.Cond.fieldLink "SafeCode$Loader" (141 : Nat) "SafeCode$Program" "bodyClass" "[I") ∈ lw_all := lw_g (lw_at lw_m3 111 rfl) rfl
theorem q839 : (Jvm.Cond.fieldLink "SafeCode$Loader" (217 : Nat) "SafeCode$Program" "bodyName" "[I") ∈ lw_all := lw_g (lw_at lw_m3 113 rfl) rfl
theorem q841 : (Jvm.Cond.fieldLink "SafeCode$Loader" (183 : Nat) "SafeCode$Program" "hasObject" "[Z") ∈ lw_all := lw_g (lw_at lw_m3 115 rfl) rfl
theorem q845 : (Jvm.Cond.fieldLink "SafeCode$Loader" (211 : Nat) "SafeCode$Program" "parameters" "[I") ∈ lw_all := lw_g (lw_at lw_m3 119 rfl) rfl
theorem q849 : (Jvm.Cond.fieldLink "SafeCode$Loader" (193 : Nat) "SafeCode$Program" "types" "[I") ∈ lw_all := lw_g (lw_at lw_m3 123 rfl) rfl
theorem q852 : (Jvm.Cond.fieldLink "SafeCode$Loader" (199 : Nat) "SafeCode$Program" "result" "[I") ∈ lw_all := lw_g (lw_at lw_m3 126 rfl) rfl
theorem q855 : (Jvm.Cond.fieldLink "SafeCode$Loader" (214 : Nat) "SafeCode$Program" "locals" "[I") ∈ lw_all := lw_g (lw_at lw_m3 129 rfl) rfl
theorem q860 : (Jvm.Cond.fieldLink "SafeCode$Loader" (243 : Nat) "SafeCode$Program" "first" "[I") ∈ lw_all := lw_g (lw_at lw_m3 134 rfl) rfl
theorem q863 : (Jvm.Cond.fieldLink "SafeCode$Loader" (256 : Nat) "SafeCode$Program" "end" "[I") ∈ lw_all := lw_g (lw_at lw_m3 137 rfl) rfl
theorem q867 : (Jvm.Cond.fieldLink "SafeCode$Loader" (227 : Nat) "SafeCode$Program" "size" "I") ∈ lw_all := lw_g (lw_at lw_m3 141 rfl) rfl
theorem q872 : (Jvm.Cond.fieldLink "SafeCode$Loader" (286 : Nat) "SafeCode$Program" "operation" "[I") ∈ lw_all := lw_g (lw_at lw_m3 146 rfl) rfl
theorem q877 : (Jvm.Cond.fieldLink "SafeCode$Loader" (297 : Nat) "SafeCode$Program" "operand" "[I") ∈ lw_all := lw_g (lw_at lw_m3 151 rfl) rfl
theorem q882 : (Jvm.Cond.fieldLink "SafeCode$Loader" (295 : Nat) "SafeCode$Program" "number" "[I") ∈ lw_all := lw_g (lw_at lw_m3 156 rfl) rfl
theorem q885 : (Jvm.Cond.fieldLink "SafeCode$Loader" (289 : Nat) "SafeCode$Program" "token" "[I") ∈ lw_all := lw_g (lw_at lw_m3 159 rfl) rfl
theorem q889 : (Jvm.Cond.fieldLink "SafeCode$Loader" (292 : Nat) "SafeCode$Program" "body" "[I") ∈ lw_all := lw_g (lw_at lw_m3 163 rfl) rfl
theorem q897 : (Jvm.Cond.fieldLink "SafeCode$Loader" (283 : Nat) "SafeCode$Program" "sites" "I") ∈ lw_all := lw_g (lw_at lw_m3 171 rfl) rfl
theorem q902 : (Jvm.Cond.fieldLink "SafeCode$Loader" (303 : Nat) "SafeCode$Program" "siteType" "[I") ∈ lw_all := lw_g (lw_at lw_m3 176 rfl) rfl
theorem q907 : (Jvm.Cond.fieldLink "SafeCode$Loader" (265 : Nat) "SafeCode$Program" "catches" "I") ∈ lw_all := lw_g (lw_at lw_m3 181 rfl) rfl
theorem q912 : (Jvm.Cond.fieldLink "SafeCode$Loader" (271 : Nat) "SafeCode$Program" "catchFrom" "[I") ∈ lw_all := lw_g (lw_at lw_m3 186 rfl) rfl
theorem q917 : (Jvm.Cond.fieldLink "SafeCode$Loader" (274 : Nat) "SafeCode$Program" "catchTo" "[I") ∈ lw_all := lw_g (lw_at lw_m3 191 rfl) rfl
theorem q922 : (Jvm.Cond.fieldLink "SafeCode$Loader" (277 : Nat) "SafeCode$Program" "catchAt" "[I") ∈ lw_all := lw_g (lw_at lw_m3 196 rfl) rfl
theorem q927 : (Jvm.Cond.fieldLink "SafeCode$Loader" (280 : Nat) "SafeCode$Program" "catchClass" "[I") ∈ lw_all := lw_g (lw_at lw_m3 201 rfl) rfl
theorem q932 : (Jvm.Cond.fieldLink "SafeCode$Loader" (316 : Nat) "SafeCode$Program" "main" "I") ∈ lw_all := lw_g (lw_at lw_m3 206 rfl) rfl
theorem q1288 : (Jvm.Cond.instanceMethod ({ cls := "SafeCode$Loader", name := "load", desc := "(LSafeCode$Program;)V" } : Jvm.MethodName)) ∈ lw_all := lw_g (lw_at lw_m5 82 rfl) rfl
theorem q1289 : (Jvm.Cond.selects "SafeCode$Loader" ({ cls := "SafeCode$Loader", name := "load", desc := "(LSafeCode$Program;)V" } : Jvm.MethodName) ({ cls := "SafeCode$Loader", name := "load", desc := "(LSafeCode$Program;)V" } : Jvm.MethodName)) ∈ lw_all := lw_g (lw_at lw_m5 83 rfl) rfl
theorem q1290 : (Jvm.Cond.code ({ cls := "SafeCode$Loader", name := "load", desc := "(LSafeCode$Program;)V" } : Jvm.MethodName) prog_7_method_3_code (4 : Nat) (Option.none : Option Jvm.ClassFile.FieldType)) ∈ lw_all := lw_g (lw_at lw_m5 84 rfl) rfl
theorem q1291 : (Jvm.Cond.methodLink "SafeCode$Loader" (53 : Nat) ({ cls := "SafeCode$Program", name := "clear", desc := "()V" } : Jvm.MethodName)) ∈ lw_all := lw_g (lw_at lw_m5 85 rfl) rfl
theorem q1295 : (Jvm.Cond.methodLink "SafeCode$Loader" (67 : Nat) ({ cls := "SafeCode$Loader", name := "readClass", desc := "(I)V" } : Jvm.MethodName)) ∈ lw_all := lw_g (lw_at lw_m5 89 rfl) rfl
theorem q1296 : (Jvm.Cond.privateMethod ({ cls := "SafeCode$Loader", name := "readClass", desc := "(I)V" } : Jvm.MethodName)) ∈ lw_tbl := lw_at lw_m5 90 rfl
theorem q1297 : (Jvm.Cond.instanceMethod ({ cls := "SafeCode$Loader", name := "readClass", desc := "(I)V" } : Jvm.MethodName)) ∈ lw_all := lw_g (lw_at lw_m5 91 rfl) rfl
theorem q1298 : (Jvm.Cond.code ({ cls := "SafeCode$Loader", name := "readClass", desc := "(I)V" } : Jvm.MethodName) prog_7_method_6_code (4 : Nat) (Option.none : Option Jvm.ClassFile.FieldType)) ∈ lw_all := lw_g (lw_at lw_m5 92 rfl) rfl
theorem q1299 : (Jvm.Cond.methodLink "SafeCode$Loader" (111 : Nat) ({ cls := "SafeCode$Loader", name := "classOf", desc := "(I)I" } : Jvm.MethodName)) ∈ lw_all := lw_g (lw_at lw_m5 93 rfl) rfl
theorem q1300 : (Jvm.Cond.privateMethod ({ cls := "SafeCode$Loader", name := "classOf", desc := "(I)I" } : Jvm.MethodName)) ∈ lw_tbl := lw_at lw_m5 94 rfl
theorem q1301 : (Jvm.Cond.instanceMethod ({ cls := "SafeCode$Loader", name := "classOf", desc := "(I)I" } : Jvm.MethodName)) ∈ lw_all := lw_g (lw_at lw_m5 95 rfl) rfl
theorem q1302 : (Jvm.Cond.code ({ cls := "SafeCode$Loader", name := "classOf", desc := "(I)I" } : Jvm.MethodName) prog_7_method_5_code (2 : Nat) (Option.some Jvm.ClassFile.FieldType.int)) ∈ lw_all := lw_g (lw_at lw_m5 96 rfl) rfl
theorem q1303 : (Jvm.Cond.methodLink "SafeCode$Loader" (108 : Nat) ({ cls := "SafeCode$Loader", name := "classAt", desc := "(II)I" } : Jvm.MethodName)) ∈ lw_all := lw_g (lw_at lw_m5 97 rfl) rfl
theorem q1304 : (Jvm.Cond.privateMethod ({ cls := "SafeCode$Loader", name := "classAt", desc := "(II)I" } : Jvm.MethodName)) ∈ lw_tbl := lw_at lw_m5 98 rfl
theorem q1305 : (Jvm.Cond.instanceMethod ({ cls := "SafeCode$Loader", name := "classAt", desc := "(II)I" } : Jvm.MethodName)) ∈ lw_all := lw_g (lw_at lw_m5 99 rfl) rfl
theorem q1306 : (Jvm.Cond.code ({ cls := "SafeCode$Loader", name := "classAt", desc := "(II)I" } : Jvm.MethodName) prog_7_method_4_code (6 : Nat) (Option.some Jvm.ClassFile.FieldType.int)) ∈ lw_all := lw_g (lw_at lw_m5 100 rfl) rfl
theorem q1307 : (Jvm.Cond.methodLink "SafeCode$Loader" (90 : Nat) ({ cls := "SafeCode$Tokens", name := "knownClass", desc := "(II)I" } : Jvm.MethodName)) ∈ lw_all := lw_g (lw_at lw_m5 101 rfl) rfl
theorem q1312 : (Jvm.Cond.methodLink "SafeCode$Loader" (104 : Nat) ({ cls := "SafeCode$Tokens", name := "isSamePart", desc := "(IIII)Z" } : Jvm.MethodName)) ∈ lw_all := lw_g (lw_at lw_m5 106 rfl) rfl
theorem q1316 : (Jvm.Cond.methodLink "SafeCode$Loader" (115 : Nat) ({ cls := "SafeCode$Loader", name := "must", desc := "(ZI)V" } : Jvm.MethodName)) ∈ lw_all := lw_g (lw_at lw_m5 110 rfl) rfl
theorem q1317 : (Jvm.Cond.privateMethod ({ cls := "SafeCode$Loader", name := "must", desc := "(ZI)V" } : Jvm.MethodName)) ∈ lw_tbl := lw_at lw_m5 111 rfl
theorem q1318 : (Jvm.Cond.instanceMethod ({ cls := "SafeCode$Loader", name := "must", desc := "(ZI)V" } : Jvm.MethodName)) ∈ lw_all := lw_g (lw_at lw_m5 112 rfl) rfl
theorem q1319 : (Jvm.Cond.code ({ cls := "SafeCode$Loader", name := "must", desc := "(ZI)V" } : Jvm.MethodName) prog_7_method_2_code (3 : Nat) (Option.none : Option Jvm.ClassFile.FieldType)) ∈ lw_all := lw_g (lw_at lw_m5 113 rfl) rfl
theorem q1320 : (Jvm.Cond.methodLink "SafeCode$Loader" (43 : Nat) ({ cls := "SafeCode$Fault", name := "at", desc := "(II)Ljava/lang/IllegalStateException;" } : Jvm.MethodName)) ∈ lw_all := lw_g (lw_at lw_m5 114 rfl) rfl
theorem q1321 : (Jvm.Cond.methodLink "SafeCode$Loader" (77 : Nat) ({ cls := "SafeCode$Loader", name := "readMember", desc := "(II)V" } : Jvm.MethodName)) ∈ lw_all := lw_g (lw_at lw_m5 115 rfl) rfl
theorem q1322 : (Jvm.Cond.privateMethod ({ cls := "SafeCode$Loader", name := "readMember", desc := "(II)V" } : Jvm.MethodName)) ∈ lw_tbl := lw_at lw_m5 116 rfl
theorem q1323 : (Jvm.Cond.instanceMethod ({ cls := "SafeCode$Loader", name := "readMember", desc := "(II)V" } : Jvm.MethodName)) ∈ lw_all := lw_g (lw_at lw_m5 117 rfl) rfl
theorem q1324 : (Jvm.Cond.code ({ cls := "SafeCode$Loader", name := "readMember", desc := "(II)V" } : Jvm.MethodName) prog_7_method_12_code (4 : Nat) (Option.none : Option Jvm.ClassFile.FieldType)) ∈ lw_all := lw_g (lw_at lw_m5 118 rfl) rfl
theorem q1325 : (Jvm.Cond.methodLink "SafeCode$Loader" (154 : Nat) ({ cls := "SafeCode$Loader", name := "readField", desc := "(II)V" } : Jvm.MethodName)) ∈ lw_all := lw_g (lw_at lw_m5 119 rfl) rfl
theorem q1326 : (Jvm.Cond.privateMethod ({ cls := "SafeCode$Loader", name := "readField", desc := "(II)V" } : Jvm.MethodName)) ∈ lw_tbl := lw_at lw_m5 120 rfl
theorem q1327 : (Jvm.Cond.instanceMethod ({ cls := "SafeCode$Loader", name := "readField", desc := "(II)V" } : Jvm.MethodName)) ∈ lw_all := lw_g (lw_at lw_m5 121 rfl) rfl
theorem q1328 : (Jvm.Cond.code ({ cls := "SafeCode$Loader", name := "readField", desc := "(II)V" } : Jvm.MethodName) prog_7_method_14_code (4 : Nat) (Option.none : Option Jvm.ClassFile.FieldType)) ∈ lw_all := lw_g (lw_at lw_m5 122 rfl) rfl
theorem q1329 : (Jvm.Cond.methodLink "SafeCode$Loader" (165 : Nat) ({ cls := "SafeCode$Loader", name := "field", desc := "(III)I" } : Jvm.MethodName)) ∈ lw_all := lw_g (lw_at lw_m5 123 rfl) rfl
theorem q1330 : (Jvm.Cond.privateMethod ({ cls := "SafeCode$Loader", name := "field", desc := "(III)I" } : Jvm.MethodName)) ∈ lw_tbl := lw_at lw_m5 124 rfl
theorem q1331 : (Jvm.Cond.instanceMethod ({ cls := "SafeCode$Loader", name := "field", desc := "(III)I" } : Jvm.MethodName)) ∈ lw_all := lw_g (lw_at lw_m5 125 rfl) rfl
theorem q1332 : (Jvm.Cond.code ({ cls := "SafeCode$Loader", name := "field", desc := "(III)I" } : Jvm.MethodName) prog_7_method_9_code (6 : Nat) (Option.some Jvm.ClassFile.FieldType.int)) ∈ lw_all := lw_g (lw_at lw_m5 126 rfl) rfl
theorem q1333 : (Jvm.Cond.methodLink "SafeCode$Loader" (171 : Nat) ({ cls := "SafeCode$Loader", name := "typeMust", desc := "(I)I" } : Jvm.MethodName)) ∈ lw_all := lw_g (lw_at lw_m5 127 rfl) rfl
theorem q1334 : (Jvm.Cond.privateMethod ({ cls := "SafeCode$Loader", name := "typeMust", desc := "(I)I" } : Jvm.MethodName)) ∈ lw_tbl := lw_at lw_m5 128 rfl
theorem q1335 : (Jvm.Cond.instanceMethod ({ cls := "SafeCode$Loader", name := "typeMust", desc := "(I)I" } : Jvm.MethodName)) ∈ lw_all := lw_g (lw_at lw_m5 129 rfl) rfl
theorem q1336 : (Jvm.Cond.code ({ cls := "SafeCode$Loader", name := "typeMust", desc := "(I)I" } : Jvm.MethodName) prog_7_method_8_code (3 : Nat) (Option.some Jvm.ClassFile.FieldType.int)) ∈ lw_all := lw_g (lw_at lw_m5 130 rfl) rfl
theorem q1337 : (Jvm.Cond.methodLink "SafeCode$Loader" (132 : Nat) ({ cls := "SafeCode$Loader", name := "typeOf", desc := "(I)I" } : Jvm.MethodName)) ∈ lw_all := lw_g (lw_at lw_m5 131 rfl) rfl
theorem q1338 : (Jvm.Cond.privateMethod ({ cls := "SafeCode$Loader", name := "typeOf", desc := "(I)I" } : Jvm.MethodName)) ∈ lw_tbl := lw_at lw_m5 132 rfl
theorem q1339 : (Jvm.Cond.instanceMethod ({ cls := "SafeCode$Loader", name := "typeOf", desc := "(I)I" } : Jvm.MethodName)) ∈ lw_all := lw_g (lw_at lw_m5 133 rfl) rfl
theorem q1340 : (Jvm.Cond.code ({ cls := "SafeCode$Loader", name := "typeOf", desc := "(I)I" } : Jvm.MethodName) prog_7_method_7_code (3 : Nat) (Option.some Jvm.ClassFile.FieldType.int)) ∈ lw_all := lw_g (lw_at lw_m5 134 rfl) rfl
theorem q1341 : (Jvm.Cond.methodLink "SafeCode$Loader" (122 : Nat) ({ cls := "SafeCode$Tokens", name := "isIntBare", desc := "(I)Z" } : Jvm.MethodName)) ∈ lw_all := lw_g (lw_at lw_m5 135 rfl) rfl
theorem q1342 : (Jvm.Cond.methodLink "SafeCode$Loader" (126 : Nat) ({ cls := "SafeCode$Tokens", name := "isArrayType", desc := "(I)Z" } : Jvm.MethodName)) ∈ lw_all := lw_g (lw_at lw_m5 136 rfl) rfl
theorem q1346 : (Jvm.Cond.methodLink "SafeCode$Loader" (129 : Nat) ({ cls := "SafeCode$Tokens", name := "bareEnd", desc := "(I)I" } : Jvm.MethodName)) ∈ lw_all := lw_g (lw_at lw_m5 140 rfl) rfl
theorem q1347 : (Jvm.Cond.methodLink "SafeCode$Loader" (177 : Nat) ({ cls := "SafeCode$Loader", name := "fieldsAbove", desc := "(I)I" } : Jvm.MethodName)) ∈ lw_all := lw_g (lw_at lw_m5 141 rfl) rfl
theorem q1348 : (Jvm.Cond.privateMethod ({ cls := "SafeCode$Loader", name := "fieldsAbove", desc := "(I)I" } : Jvm.MethodName)) ∈ lw_tbl := lw_at lw_m5 142 rfl
theorem q1349 : (Jvm.Cond.instanceMethod ({ cls := "SafeCode$Loader", name := "fieldsAbove", desc := "(I)I" } : Jvm.MethodName)) ∈ lw_all := lw_g (lw_at lw_m5 143 rfl) rfl
theorem q1350 : (Jvm.Cond.code ({ cls := "SafeCode$Loader", name := "fieldsAbove", desc := "(I)I" } : Jvm.MethodName) prog_7_method_13_code (4 : Nat) (Option.some Jvm.ClassFile.FieldType.int)) ∈ lw_all := lw_g (lw_at lw_m5 144 rfl) rfl
theorem q1351 : (Jvm.Cond.methodLink "SafeCode$Loader" (161 : Nat) ({ cls := "SafeCode$Program", name := "isClassBelow", desc := "(II)Z" } : Jvm.MethodName)) ∈ lw_all := lw_g (lw_at lw_m5 145 rfl) rfl
theorem q1355 : (Jvm.Cond.methodLink "SafeCode$Loader" (157 : Nat) ({ cls := "SafeCode$Loader", name := "readHead", desc := "(III)V" } : Jvm.MethodName)) ∈ lw_all := lw_g (lw_at lw_m5 149 rfl) rfl
theorem q1356 : (Jvm.Cond.privateMethod ({ cls := "SafeCode$Loader", name := "readHead", desc := "(III)V" } : Jvm.MethodName)) ∈ lw_tbl := lw_at lw_m5 150 rfl
theorem q1357 : (Jvm.Cond.instanceMethod ({ cls := "SafeCode$Loader", name := "readHead", desc := "(III)V" } : Jvm.MethodName)) ∈ lw_all := lw_g (lw_at lw_m5 151 rfl) rfl
theorem q1358 : (Jvm.Cond.code ({ cls := "SafeCode$Loader", name := "readHead", desc := "(III)V" } : Jvm.MethodName) prog_7_method_16_code (15 : Nat) (Option.none : Option Jvm.ClassFile.FieldType)) ∈ lw_all := lw_g (lw_at lw_m5 152 rfl) rfl
theorem q1359 : (Jvm.Cond.methodLink "SafeCode$Loader" (180 : Nat) ({ cls := "SafeCode$Loader", name := "nearestBody", desc := "(III)I" } : Jvm.MethodName)) ∈ lw_all := lw_g (lw_at lw_m5 153 rfl) rfl
theorem q1360 : (Jvm.Cond.privateMethod ({ cls := "SafeCode$Loader", name := "nearestBody", desc := "(III)I" } : Jvm.MethodName)) ∈ lw_tbl := lw_at lw_m5 154 rfl
theorem q1361 : (Jvm.Cond.instanceMethod ({ cls := "SafeCode$Loader", name := "nearestBody", desc := "(III)I" } : Jvm.MethodName)) ∈ lw_all := lw_g (lw_at lw_m5 155 rfl) rfl
theorem q1362 : (Jvm.Cond.code ({ cls := "SafeCode$Loader", name := "nearestBody", desc := "(III)I" } : Jvm.MethodName) prog_7_method_11_code (6 : Nat) (Option.some Jvm.ClassFile.FieldType.int)) ∈ lw_all := lw_g (lw_at lw_m5 156 rfl) rfl
theorem q1363 : (Jvm.Cond.methodLink "SafeCode$Loader" (144 : Nat) ({ cls := "SafeCode$Loader", name := "bodyIn", desc := "(III)I" } : Jvm.MethodName)) ∈ lw_all := lw_g (lw_at lw_m5 157 rfl) rfl
theorem q1364 : (Jvm.Cond.privateMethod ({ cls := "SafeCode$Loader", name := "bodyIn", desc := "(III)I" } : Jvm.MethodName)) ∈ lw_tbl := lw_at lw_m5 158 rfl
theorem q1365 : (Jvm.Cond.instanceMethod ({ cls := "SafeCode$Loader", name := "bodyIn", desc := "(III)I" } : Jvm.MethodName)) ∈ lw_all := lw_g (lw_at lw_m5 159 rfl) rfl
theorem q1366 : (Jvm.Cond.code ({ cls := "SafeCode$Loader", name := "bodyIn", desc := "(III)I" } : Jvm.MethodName) prog_7_method_10_code (5 : Nat) (Option.some Jvm.ClassFile.FieldType.int)) ∈ lw_all := lw_g (lw_at lw_m5 160 rfl) rfl
theorem q1367 : (Jvm.Cond.methodLink "SafeCode$Loader" (187 : Nat) ({ cls := "SafeCode$Loader", name := "isSameHead", desc := "(II)Z" } : Jvm.MethodName)) ∈ lw_all := lw_g (lw_at lw_m5 161 rfl) rfl
theorem q1368 : (Jvm.Cond.privateMethod ({ cls := "SafeCode$Loader", name := "isSameHead", desc := "(II)Z" } : Jvm.MethodName)) ∈ lw_tbl := lw_at lw_m5 162 rfl
theorem q1369 : (Jvm.Cond.instanceMethod ({ cls := "SafeCode$Loader", name := "isSameHead", desc := "(II)Z" } : Jvm.MethodName)) ∈ lw_all := lw_g (lw_at lw_m5 163 rfl) rfl
theorem q1370 : (Jvm.Cond.code ({ cls := "SafeCode$Loader", name := "isSameHead", desc := "(II)Z" } : Jvm.MethodName) prog_7_method_17_code (7 : Nat) (Option.some Jvm.ClassFile.FieldType.boolean)) ∈ lw_all := lw_g (lw_at lw_m5 164 rfl) rfl
theorem q1371 : (Jvm.Cond.methodLink "SafeCode$Loader" (196 : Nat) ({ cls := "SafeCode$Loader", name := "firstType", desc := "(I)I" } : Jvm.MethodName)) ∈ lw_all := lw_g (lw_at lw_m5 165 rfl) rfl
theorem q1372 : (Jvm.Cond.static ({ cls := "SafeCode$Loader", name := "firstType", desc := "(I)I" } : Jvm.MethodName)) ∈ lw_all := lw_g (lw_at lw_m5 166 rfl) rfl
theorem q1373 : (Jvm.Cond.code ({ cls := "SafeCode$Loader", name := "firstType", desc := "(I)I" } : Jvm.MethodName) prog_7_method_15_code (1 : Nat) (Option.some Jvm.ClassFile.FieldType.int)) ∈ lw_all := lw_g (lw_at lw_m5 167 rfl) rfl
theorem q1374 : (Jvm.Cond.methodLink "SafeCode$Loader" (220 : Nat) ({ cls := "SafeCode$Tokens", name := "isSame", desc := "(II)Z" } : Jvm.MethodName)) ∈ lw_all := lw_g (lw_at lw_m5 168 rfl) rfl
theorem q1379 : (Jvm.Cond.stringRef "SafeCode$Loader" (202 : Nat) "none") ∈ lw_tbl := lw_at lw_m5 173 rfl
theorem q1380 : (Jvm.Cond.methodLink "SafeCode$Loader" (204 : Nat) ({ cls := "SafeCode$Tokens", name := "is", desc := "(ILjava/lang/String;)Z" } : Jvm.MethodName)) ∈ lw_all := lw_g (lw_at lw_m5 174 rfl) rfl
theorem q1381 : (Jvm.Cond.methodLink "SafeCode$Loader" (208 : Nat) ({ cls := "SafeCode$Tokens", name := "number", desc := "(I)I" } : Jvm.MethodName)) ∈ lw_all := lw_g (lw_at lw_m5 175 rfl) rfl
theorem q1385 : (Jvm.Cond.methodLink "SafeCode$Loader" (84 : Nat) ({ cls := "SafeCode$Loader", name := "readBody", desc := "(I)V" } : Jvm.MethodName)) ∈ lw_all := lw_g (lw_at lw_m5 179 rfl) rfl
theorem q1386 : (Jvm.Cond.privateMethod ({ cls := "SafeCode$Loader", name := "readBody", desc := "(I)V" } : Jvm.MethodName)) ∈ lw_tbl := lw_at lw_m5 180 rfl
theorem q1387 : (Jvm.Cond.instanceMethod ({ cls := "SafeCode$Loader", name := "readBody", desc := "(I)V" } : Jvm.MethodName)) ∈ lw_all := lw_g (lw_at lw_m5 181 rfl) rfl
theorem q1388 : (Jvm.Cond.code ({ cls := "SafeCode$Loader", name := "readBody", desc := "(I)V" } : Jvm.MethodName) prog_7_method_21_code (10 : Nat) (Option.none : Option Jvm.ClassFile.FieldType)) ∈ lw_all := lw_g (lw_at lw_m5 182 rfl) rfl
theorem q1389 : (Jvm.Cond.methodLink "SafeCode$Loader" (237 : Nat) ({ cls := "SafeCode$Loader", name := "linesBefore", desc := "(I)I" } : Jvm.MethodName)) ∈ lw_all := lw_g (lw_at lw_m5 183 rfl) rfl
theorem q1390 : (Jvm.Cond.privateMethod ({ cls := "SafeCode$Loader", name := "linesBefore", desc := "(I)I" } : Jvm.MethodName)) ∈ lw_tbl := lw_at lw_m5 184 rfl
theorem q1391 : (Jvm.Cond.instanceMethod ({ cls := "SafeCode$Loader", name := "linesBefore", desc := "(I)I" } : Jvm.MethodName)) ∈ lw_all := lw_g (lw_at lw_m5 185 rfl) rfl
theorem q1392 : (Jvm.Cond.code ({ cls := "SafeCode$Loader", name := "linesBefore", desc := "(I)I" } : Jvm.MethodName) prog_7_method_18_code (2 : Nat) (Option.some Jvm.ClassFile.FieldType.int)) ∈ lw_all := lw_g (lw_at lw_m5 186 rfl) rfl
theorem q1393 : (Jvm.Cond.methodLink "SafeCode$Loader" (240 : Nat) ({ cls := "SafeCode$Loader", name := "findLabels", desc := "(II)V" } : Jvm.MethodName)) ∈ lw_all := lw_g (lw_at lw_m5 187 rfl) rfl
theorem q1394 : (Jvm.Cond.privateMethod ({ cls := "SafeCode$Loader", name := "findLabels", desc := "(II)V" } : Jvm.MethodName)) ∈ lw_tbl := lw_at lw_m5 188 rfl
theorem q1395 : (Jvm.Cond.instanceMethod ({ cls := "SafeCode$Loader", name := "findLabels", desc := "(II)V" } : Jvm.MethodName)) ∈ lw_all := lw_g (lw_at lw_m5 189 rfl) rfl
theorem q1396 : (Jvm.Cond.code ({ cls := "SafeCode$Loader", name := "findLabels", desc := "(II)V" } : Jvm.MethodName) prog_7_method_20_code (5 : Nat) (Option.none : Option Jvm.ClassFile.FieldType)) ∈ lw_all := lw_g (lw_at lw_m5 190 rfl) rfl
theorem q1397 : (Jvm.Cond.methodLink "SafeCode$Loader" (226 : Nat) ({ cls := "SafeCode$Ints", name := "clear", desc := "()V" } : Jvm.MethodName)) ∈ lw_all := lw_g (lw_at lw_m5 191 rfl) rfl
theorem q1398 : (Jvm.Cond.methodLink "SafeCode$Loader" (234 : Nat) ({ cls := "SafeCode$Ints", name := "add", desc := "(I)V" } : Jvm.MethodName)) ∈ lw_all := lw_g (lw_at lw_m5 192 rfl) rfl
theorem q1399 : (Jvm.Cond.methodLink "SafeCode$Loader" (246 : Nat) ({ cls := "SafeCode$Loader", name := "readCatch", desc := "(II)V" } : Jvm.MethodName)) ∈ lw_all := lw_g (lw_at lw_m5 193 rfl) rfl
theorem q1400 : (Jvm.Cond.privateMethod ({ cls := "SafeCode$Loader", name := "readCatch", desc := "(II)V" } : Jvm.MethodName)) ∈ lw_tbl := lw_at lw_m5 194 rfl
theorem q1401 : (Jvm.Cond.instanceMethod ({ cls := "SafeCode$Loader", name := "readCatch", desc := "(II)V" } : Jvm.MethodName)) ∈ lw_all := lw_g (lw_at lw_m5 195 rfl) rfl
theorem q1402 : (Jvm.Cond.code ({ cls := "SafeCode$Loader", name := "readCatch", desc := "(II)V" } : Jvm.MethodName) prog_7_method_22_code (8 : Nat) (Option.none : Option Jvm.ClassFile.FieldType)) ∈ lw_all := lw_g (lw_at lw_m5 196 rfl) rfl
theorem q1403 : (Jvm.Cond.methodLink "SafeCode$Loader" (268 : Nat) ({ cls := "SafeCode$Loader", name := "label", desc := "(I)I" } : Jvm.MethodName)) ∈ lw_all := lw_g (lw_at lw_m5 197 rfl) rfl
theorem q1404 : (Jvm.Cond.privateMethod ({ cls := "SafeCode$Loader", name := "label", desc := "(I)I" } : Jvm.MethodName)) ∈ lw_tbl := lw_at lw_m5 198 rfl
theorem q1405 : (Jvm.Cond.instanceMethod ({ cls := "SafeCode$Loader", name := "label", desc := "(I)I" } : Jvm.MethodName)) ∈ lw_all := lw_g (lw_at lw_m5 199 rfl) rfl
theorem q1406 : (Jvm.Cond.code ({ cls := "SafeCode$Loader", name := "label", desc := "(I)I" } : Jvm.MethodName) prog_7_method_19_code (3 : Nat) (Option.some Jvm.ClassFile.FieldType.int)) ∈ lw_all := lw_g (lw_at lw_m5 200 rfl) rfl
theorem q1407 : (Jvm.Cond.methodLink "SafeCode$Loader" (252 : Nat) ({ cls := "SafeCode$Loader", name := "readInstruction", desc := "(IIII)V" } : Jvm.MethodName)) ∈ lw_all := lw_g (lw_at lw_m5 201 rfl) rfl
theorem q1408 : (Jvm.Cond.privateMethod ({ cls := "SafeCode$Loader", name := "readInstruction", desc := "(IIII)V" } : Jvm.MethodName)) ∈ lw_tbl := lw_at lw_m5 202 rfl
theorem q1409 : (Jvm.Cond.instanceMethod ({ cls := "SafeCode$Loader", name := "readInstruction", desc := "(IIII)V" } : Jvm.MethodName)) ∈ lw_all := lw_g (lw_at lw_m5 203 rfl) rfl
theorem q1410 : (Jvm.Cond.code ({ cls := "SafeCode$Loader", name := "readInstruction", desc := "(IIII)V" } : Jvm.MethodName) prog_7_method_23_code (7 : Nat) (Option.none : Option Jvm.ClassFile.FieldType)) ∈ lw_all := lw_g (lw_at lw_m5 204 rfl) rfl
theorem q1411 : (Jvm.Cond.methodLink "SafeCode$Loader" (300 : Nat) ({ cls := "SafeCode$Loader", name := "operand", desc := "(IIII)I" } : Jvm.MethodName)) ∈ lw_all := lw_g (lw_at lw_m5 205 rfl) rfl
theorem q1412 : (Jvm.Cond.privateMethod ({ cls := "SafeCode$Loader", name := "operand", desc := "(IIII)I" } : Jvm.MethodName)) ∈ lw_tbl := lw_at lw_m5 206 rfl
theorem q1413 : (Jvm.Cond.instanceMethod ({ cls := "SafeCode$Loader", name := "operand", desc := "(IIII)I" } : Jvm.MethodName)) ∈ lw_all := lw_g (lw_at lw_m5 207 rfl) rfl
theorem q1414 : (Jvm.Cond.code ({ cls := "SafeCode$Loader", name := "operand", desc := "(IIII)I" } : Jvm.MethodName) prog_7_method_24_code (6 : Nat) (Option.some Jvm.ClassFile.FieldType.int)) ∈ lw_all := lw_g (lw_at lw_m5 208 rfl) rfl
theorem q1415 : (Jvm.Cond.methodLink "SafeCode$Loader" (306 : Nat) ({ cls := "SafeCode$Loader", name := "member", desc := "(II)I" } : Jvm.MethodName)) ∈ lw_all := lw_g (lw_at lw_m5 209 rfl) rfl
theorem q1416 : (Jvm.Cond.privateMethod ({ cls := "SafeCode$Loader", name := "member", desc := "(II)I" } : Jvm.MethodName)) ∈ lw_tbl := lw_at lw_m5 210 rfl
theorem q1417 : (Jvm.Cond.instanceMethod ({ cls := "SafeCode$Loader", name := "member", desc := "(II)I" } : Jvm.MethodName)) ∈ lw_all := lw_g (lw_at lw_m5 211 rfl) rfl
theorem q1418 : (Jvm.Cond.code ({ cls := "SafeCode$Loader", name := "member", desc := "(II)I" } : Jvm.MethodName) prog_7_method_25_code (7 : Nat) (Option.some Jvm.ClassFile.FieldType.int)) ∈ lw_all := lw_g (lw_at lw_m5 212 rfl) rfl
theorem q1419 : (Jvm.Cond.methodLink "SafeCode$Loader" (309 : Nat) ({ cls := "SafeCode$Tokens", name := "point", desc := "(I)I" } : Jvm.MethodName)) ∈ lw_all := lw_g (lw_at lw_m5 213 rfl) rfl
theorem q1420 : (Jvm.Cond.methodLink "SafeCode$Loader" (259 : Nat) ({ cls := "SafeCode$Program", name := "goesOn", desc := "(I)Z" } : Jvm.MethodName)) ∈ lw_all := lw_g (lw_at lw_m5 214 rfl) rfl
theorem q1424 : (Jvm.Cond.methodLink "SafeCode$Loader" (87 : Nat) ({ cls := "SafeCode$Loader", name := "findMain", desc := "()V" } : Jvm.MethodName)) ∈ lw_all := lw_g (lw_at lw_m5 218 rfl) rfl
theorem q1425 : (Jvm.Cond.privateMethod ({ cls := "SafeCode$Loader", name := "findMain", desc := "()V" } : Jvm.MethodName)) ∈ lw_tbl := lw_at lw_m5 219 rfl
theorem q1426 : (Jvm.Cond.instanceMethod ({ cls := "SafeCode$Loader", name := "findMain", desc := "()V" } : Jvm.MethodName)) ∈ lw_all := lw_g (lw_at lw_m5 220 rfl) rfl
theorem q1427 : (Jvm.Cond.code ({ cls := "SafeCode$Loader", name := "findMain", desc := "()V" } : Jvm.MethodName) prog_7_method_26_code (3 : Nat) (Option.none : Option Jvm.ClassFile.FieldType)) ∈ lw_all := lw_g (lw_at lw_m5 221 rfl) rfl
theorem q1428 : (Jvm.Cond.stringRef "SafeCode$Loader" (312 : Nat) "Main") ∈ lw_tbl := lw_at lw_m5 222 rfl
theorem q1429 : (Jvm.Cond.stringRef "SafeCode$Loader" (314 : Nat) "main") ∈ lw_tbl := lw_at lw_m5 223 rfl
theorem q1430 : (Jvm.Cond.methodLink "SafeCode$Loader" (318 : Nat) ({ cls := "SafeCode$Tokens", name := "size", desc := "()I" } : Jvm.MethodName)) ∈ lw_all := lw_g (lw_at lw_m5 224 rfl) rfl
theorem in_X5 : ∀ w ∈ wsX50, w ∈ lw_all := lw_in wsX50 [477, 479, 481, 483, 485, 487, 489, 491, 493] (by decide +kernel) (by decide +kernel)
/-! SafeCode$Checker -/
def RX6 : String := "SafeCode$Checker"
def TX6 : u_T := fun k => match k with
  | 0 => ("SafeCode$Checker", "fault", "LSafeCode$Fault;", true)
  | 1 => ("SafeCode$Checker", "p", "LSafeCode$Program;", false)
  | 2 => ("SafeCode$Checker", "heights", "[I", true)
  | 3 => ("SafeCode$Checker", "isBad", "[Z", true)
  | 4 => ("SafeCode$Checker", "types", "[I", true)
  | 5 => ("SafeCode$Checker", "now", "[I", true)
  | 6 => ("SafeCode$Checker", "top", "I", false)
  | _ => ("SafeCode$Checker", "isMore", "Z", false)
def tyX6 : Nat → FieldType := fun k => match k with
  | 0 => .object "SafeCode$Fault"
  | 1 => .object "SafeCode$Program"
  | 2 => .array .int
  | 3 => .array .boolean
  | 4 => .array .int
  | 5 => .array .int
  | 6 => .int
  | _ => .boolean
abbrev wsX60 : List Cond := u_ws RX6 TX6 8
theorem nmX6 : ∀ a, a < 8 → ∀ b, b < 8 → a ≠ b → (TX6 a).2.1 ≠ (TX6 b).2.1 := by decide +kernel
theorem tyX6_ok : ∀ k, k < 8 → parseFieldDescriptor (TX6 k).2.2.1 = some (tyX6 k) := by decide +kernel
abbrev cX6_init : ByteArray := prog_4_method_1_code
def yX6_init : MethodName := ⟨RX6, "<init>", "(LSafeCode$Fault;)V"⟩
abbrev cX6_check : ByteArray := prog_4_method_2_code
def yX6_check : MethodName := ⟨RX6, "check", "(LSafeCode$Program;)V"⟩
abbrev cX6_findHeights : ByteArray := prog_4_method_3_code
def yX6_findHeights : MethodName := ⟨RX6, "findHeights", "(III)V"⟩
abbrev cX6_reach : ByteArray := prog_4_method_5_code
def yX6_reach : MethodName := ⟨RX6, "reach", "(II)V"⟩
abbrev cX6_spread : ByteArray := prog_4_method_6_code
def yX6_spread : MethodName := ⟨RX6, "spread", "(II)Z"⟩
abbrev cX6_covers : ByteArray := prog_4_method_4_code
def yX6_covers : MethodName := ⟨RX6, "covers", "(II)Z"⟩
abbrev cX6_findTypes : ByteArray := prog_4_method_7_code
def yX6_findTypes : MethodName := ⟨RX6, "findTypes", "(III)V"⟩
abbrev cX6_join : ByteArray := prog_4_method_10_code
def yX6_join : MethodName := ⟨RX6, "join", "(I)V"⟩
abbrev cX6_caught : ByteArray := prog_4_method_9_code
def yX6_caught : MethodName := ⟨RX6, "caught", "(II)V"⟩
abbrev cX6_take : ByteArray := prog_4_method_8_code
def yX6_take : MethodName := ⟨RX6, "take", "(I)V"⟩
abbrev cX6_push : ByteArray := prog_4_method_11_code
def yX6_push : MethodName := ⟨RX6, "push", "(I)V"⟩
abbrev cX6_act : ByteArray := prog_4_method_12_code
def yX6_act : MethodName := ⟨RX6, "act", "(I)V"⟩
abbrev cX6_elementOf : ByteArray := prog_4_method_13_code
def yX6_elementOf : MethodName := ⟨RX6, "elementOf", "(I)I"⟩
abbrev cX6_isRight : ByteArray := prog_4_method_17_code
def yX6_isRight : MethodName := ⟨RX6, "isRight", "(I)Z"⟩
abbrev cX6_top : ByteArray := prog_4_method_14_code
def yX6_top : MethodName := ⟨RX6, "top", "(I)I"⟩
abbrev cX6_isRef : ByteArray := prog_4_method_15_code
def yX6_isRef : MethodName := ⟨RX6, "isRef", "(I)Z"⟩
abbrev cX6_isRow : ByteArray := prog_4_method_16_code
def yX6_isRow : MethodName := ⟨RX6, "isRow", "(I)Z"⟩
abbrev cX6_areArguments : ByteArray := prog_4_method_18_code
def yX6_areArguments : MethodName := ⟨RX6, "areArguments", "(I)Z"⟩
abbrev cX6_areInts : ByteArray := prog_4_method_19_code
def yX6_areInts : MethodName := ⟨RX6, "areInts", "(I)Z"⟩
theorem q257 : (Jvm.Cond.initialized "SafeCode$Checker") ∈ lw_all := lw_g (lw_at lw_m1 11 rfl) rfl
theorem q497 : (Jvm.Cond.instantiable "SafeCode$Checker" (8 : Nat)) ∈ lw_all := lw_g (lw_at lw_m2 11 rfl) rfl
theorem q499 : (Jvm.Cond.instanceMethod ({ cls := "SafeCode$Checker", name := "<init>", desc := "(LSafeCode$Fault;)V" } : Jvm.MethodName)) ∈ lw_all := lw_g (lw_at lw_m2 13 rfl) rfl
theorem q500 : (Jvm.Cond.code ({ cls := "SafeCode$Checker", name := "<init>", desc := "(LSafeCode$Fault;)V" } : Jvm.MethodName) prog_4_method_1_code (2 : Nat) (Option.none : Option Jvm.ClassFile.FieldType)) ∈ lw_all := lw_g (lw_at lw_m2 14 rfl) rfl
theorem q501 : (Jvm.Cond.methodLink "SafeCode$Checker" (3 : Nat) ({ cls := "java/lang/Object", name := "<init>", desc := "()V" } : Jvm.MethodName)) ∈ lw_all := lw_g (lw_at lw_m2 15 rfl) rfl
theorem q502 : (Jvm.Cond.fieldLink "SafeCode$Checker" (25 : Nat) "SafeCode$Checker" "fault" "LSafeCode$Fault;") ∈ lw_all := lw_g (lw_at lw_m2 16 rfl) rfl
theorem q503 : (Jvm.Cond.fieldLink "SafeCode$Checker" (29 : Nat) "SafeCode$Checker" "p" "LSafeCode$Program;") ∈ lw_all := lw_g (lw_at lw_m2 17 rfl) rfl
theorem q504 : (Jvm.Cond.fieldLink "SafeCode$Checker" (9 : Nat) "SafeCode$Checker" "heights" "[I") ∈ lw_all := lw_g (lw_at lw_m2 18 rfl) rfl
theorem q505 : (Jvm.Cond.fieldLink "SafeCode$Checker" (15 : Nat) "SafeCode$Checker" "isBad" "[Z") ∈ lw_all := lw_g (lw_at lw_m2 19 rfl) rfl
theorem q506 : (Jvm.Cond.fieldLink "SafeCode$Checker" (19 : Nat) "SafeCode$Checker" "types" "[I") ∈ lw_all := lw_g (lw_at lw_m2 20 rfl) rfl
theorem q507 : (Jvm.Cond.fieldLink "SafeCode$Checker" (22 : Nat) "SafeCode$Checker" "now" "[I") ∈ lw_all := lw_g (lw_at lw_m2 21 rfl) rfl
theorem q508 : (Jvm.Cond.fieldLink "SafeCode$Checker" (115 : Nat) "SafeCode$Checker" "top" "I") ∈ lw_all := lw_g (lw_at lw_m2 22 rfl) rfl
theorem q509 : (Jvm.Cond.fieldLink "SafeCode$Checker" (65 : Nat) "SafeCode$Checker" "isMore" "Z") ∈ lw_all := lw_g (lw_at lw_m2 23 rfl) rfl
theorem q510 : (Jvm.Cond.laysFinal "SafeCode$Checker" "SafeCode$Checker" "fault" "LSafeCode$Fault;") ∈ lw_all := lw_g (lw_at lw_m2 24 rfl) rfl
theorem q511 : (Jvm.Cond.soleField "SafeCode$Checker" "fault") ∈ lw_all := lw_g (lw_at lw_m2 25 rfl) rfl
theorem q512 : (Jvm.Cond.lays "SafeCode$Checker" "SafeCode$Checker" "p" "LSafeCode$Program;") ∈ lw_all := lw_g (lw_at lw_m2 26 rfl) rfl
theorem q513 : (Jvm.Cond.soleField "SafeCode$Checker" "p") ∈ lw_all := lw_g (lw_at lw_m2 27 rfl) rfl
theorem q514 : (Jvm.Cond.laysFinal "SafeCode$Checker" "SafeCode$Checker" "heights" "[I") ∈ lw_all := lw_g (lw_at lw_m2 28 rfl) rfl
theorem q515 : (Jvm.Cond.soleField "SafeCode$Checker" "heights") ∈ lw_all := lw_g (lw_at lw_m2 29 rfl) rfl
theorem q516 : (Jvm.Cond.laysFinal "SafeCode$Checker" "SafeCode$Checker" "isBad" "[Z") ∈ lw_all := lw_g (lw_at lw_m2 30 rfl) rfl
theorem q517 : (Jvm.Cond.soleField "SafeCode$Checker" "isBad") ∈ lw_all := lw_g (lw_at lw_m2 31 rfl) rfl
theorem q518 : (Jvm.Cond.laysFinal "SafeCode$Checker" "SafeCode$Checker" "types" "[I") ∈ lw_all := lw_g (lw_at lw_m2 32 rfl) rfl
theorem q519 : (Jvm.Cond.soleField "SafeCode$Checker" "types") ∈ lw_all := lw_g (lw_at lw_m2 33 rfl) rfl
theorem q520 : (Jvm.Cond.laysFinal "SafeCode$Checker" "SafeCode$Checker" "now" "[I") ∈ lw_all := lw_g (lw_at lw_m2 34 rfl) rfl
theorem q521 : (Jvm.Cond.soleField "SafeCode$Checker" "now") ∈ lw_all := lw_g (lw_at lw_m2 35 rfl) rfl
theorem q522 : (Jvm.Cond.lays "SafeCode$Checker" "SafeCode$Checker" "top" "I") ∈ lw_all := lw_g (lw_at lw_m2 36 rfl) rfl
theorem q523 : (Jvm.Cond.soleField "SafeCode$Checker" "top") ∈ lw_all := lw_g (lw_at lw_m2 37 rfl) rfl
theorem q524 : (Jvm.Cond.lays "SafeCode$Checker" "SafeCode$Checker" "isMore" "Z") ∈ lw_all := lw_g (lw_at lw_m2 38 rfl) rfl
theorem q525 : (Jvm.Cond.soleField "SafeCode$Checker" "isMore") ∈ lw_all := lw_g (lw_at lw_m2 39 rfl) rfl
theorem q526 : (Jvm.Cond.superclass "SafeCode$Checker" "java/lang/Object") ∈ lw_all := lw_g (lw_at lw_m2 40 rfl) rfl
theorem q822 : (Jvm.Cond.fieldLink "SafeCode$Checker" (152 : Nat) "SafeCode$Program" "fieldType" "[I") ∈ lw_all := lw_g (lw_at lw_m3 96 rfl) rfl
theorem q832 : (Jvm.Cond.fieldLink "SafeCode$Checker" (33 : Nat) "SafeCode$Program" "bodies" "I") ∈ lw_all := lw_g (lw_at lw_m3 106 rfl) rfl
theorem q843 : (Jvm.Cond.fieldLink "SafeCode$Checker" (111 : Nat) "SafeCode$Program" "parameters" "[I") ∈ lw_all := lw_g (lw_at lw_m3 117 rfl) rfl
theorem q848 : (Jvm.Cond.fieldLink "SafeCode$Checker" (114 : Nat) "SafeCode$Program" "types" "[I") ∈ lw_all := lw_g (lw_at lw_m3 122 rfl) rfl
theorem q851 : (Jvm.Cond.fieldLink "SafeCode$Checker" (155 : Nat) "SafeCode$Program" "result" "[I") ∈ lw_all := lw_g (lw_at lw_m3 125 rfl) rfl
theorem q857 : (Jvm.Cond.fieldLink "SafeCode$Checker" (55 : Nat) "SafeCode$Program" "first" "[I") ∈ lw_all := lw_g (lw_at lw_m3 131 rfl) rfl
theorem q862 : (Jvm.Cond.fieldLink "SafeCode$Checker" (58 : Nat) "SafeCode$Program" "end" "[I") ∈ lw_all := lw_g (lw_at lw_m3 136 rfl) rfl
theorem q870 : (Jvm.Cond.fieldLink "SafeCode$Checker" (128 : Nat) "SafeCode$Program" "operation" "[I") ∈ lw_all := lw_g (lw_at lw_m3 144 rfl) rfl
theorem q874 : (Jvm.Cond.fieldLink "SafeCode$Checker" (108 : Nat) "SafeCode$Program" "operand" "[I") ∈ lw_all := lw_g (lw_at lw_m3 148 rfl) rfl
theorem q881 : (Jvm.Cond.fieldLink "SafeCode$Checker" (175 : Nat) "SafeCode$Program" "number" "[I") ∈ lw_all := lw_g (lw_at lw_m3 155 rfl) rfl
theorem q884 : (Jvm.Cond.fieldLink "SafeCode$Checker" (79 : Nat) "SafeCode$Program" "token" "[I") ∈ lw_all := lw_g (lw_at lw_m3 158 rfl) rfl
theorem q887 : (Jvm.Cond.fieldLink "SafeCode$Checker" (42 : Nat) "SafeCode$Program" "body" "[I") ∈ lw_all := lw_g (lw_at lw_m3 161 rfl) rfl
theorem q891 : (Jvm.Cond.fieldLink "SafeCode$Checker" (88 : Nat) "SafeCode$Program" "height" "[I") ∈ lw_all := lw_g (lw_at lw_m3 165 rfl) rfl
theorem q901 : (Jvm.Cond.fieldLink "SafeCode$Checker" (146 : Nat) "SafeCode$Program" "siteType" "[I") ∈ lw_all := lw_g (lw_at lw_m3 175 rfl) rfl
theorem q903 : (Jvm.Cond.fieldLink "SafeCode$Checker" (39 : Nat) "SafeCode$Program" "catches" "I") ∈ lw_all := lw_g (lw_at lw_m3 177 rfl) rfl
theorem q909 : (Jvm.Cond.fieldLink "SafeCode$Checker" (45 : Nat) "SafeCode$Program" "catchFrom" "[I") ∈ lw_all := lw_g (lw_at lw_m3 183 rfl) rfl
theorem q914 : (Jvm.Cond.fieldLink "SafeCode$Checker" (91 : Nat) "SafeCode$Program" "catchTo" "[I") ∈ lw_all := lw_g (lw_at lw_m3 188 rfl) rfl
theorem q919 : (Jvm.Cond.fieldLink "SafeCode$Checker" (76 : Nat) "SafeCode$Program" "catchAt" "[I") ∈ lw_all := lw_g (lw_at lw_m3 193 rfl) rfl
theorem q924 : (Jvm.Cond.fieldLink "SafeCode$Checker" (137 : Nat) "SafeCode$Program" "catchClass" "[I") ∈ lw_all := lw_g (lw_at lw_m3 198 rfl) rfl
theorem q1432 : (Jvm.Cond.instanceMethod ({ cls := "SafeCode$Checker", name := "check", desc := "(LSafeCode$Program;)V" } : Jvm.MethodName)) ∈ lw_all := lw_g (lw_at lw_m5 226 rfl) rfl
theorem q1433 : (Jvm.Cond.selects "SafeCode$Checker" ({ cls := "SafeCode$Checker", name := "check", desc := "(LSafeCode$Program;)V" } : Jvm.MethodName) ({ cls := "SafeCode$Checker", name := "check", desc := "(LSafeCode$Program;)V" } : Jvm.MethodName)) ∈ lw_all := lw_g (lw_at lw_m5 227 rfl) rfl
theorem q1434 : (Jvm.Cond.code ({ cls := "SafeCode$Checker", name := "check", desc := "(LSafeCode$Program;)V" } : Jvm.MethodName) prog_4_method_2_code (5 : Nat) (Option.none : Option Jvm.ClassFile.FieldType)) ∈ lw_all := lw_g (lw_at lw_m5 228 rfl) rfl
theorem q1435 : (Jvm.Cond.methodLink "SafeCode$Checker" (48 : Nat) ({ cls := "SafeCode$Checker", name := "findHeights", desc := "(III)V" } : Jvm.MethodName)) ∈ lw_all := lw_g (lw_at lw_m5 229 rfl) rfl
theorem q1436 : (Jvm.Cond.privateMethod ({ cls := "SafeCode$Checker", name := "findHeights", desc := "(III)V" } : Jvm.MethodName)) ∈ lw_tbl := lw_at lw_m5 230 rfl
theorem q1437 : (Jvm.Cond.instanceMethod ({ cls := "SafeCode$Checker", name := "findHeights", desc := "(III)V" } : Jvm.MethodName)) ∈ lw_all := lw_g (lw_at lw_m5 231 rfl) rfl
theorem q1438 : (Jvm.Cond.code ({ cls := "SafeCode$Checker", name := "findHeights", desc := "(III)V" } : Jvm.MethodName) prog_4_method_3_code (7 : Nat) (Option.none : Option Jvm.ClassFile.FieldType)) ∈ lw_all := lw_g (lw_at lw_m5 232 rfl) rfl
theorem q1439 : (Jvm.Cond.methodLink "SafeCode$Checker" (61 : Nat) ({ cls := "SafeCode$Checker", name := "reach", desc := "(II)V" } : Jvm.MethodName)) ∈ lw_all := lw_g (lw_at lw_m5 233 rfl) rfl
theorem q1440 : (Jvm.Cond.privateMethod ({ cls := "SafeCode$Checker", name := "reach", desc := "(II)V" } : Jvm.MethodName)) ∈ lw_tbl := lw_at lw_m5 234 rfl
theorem q1441 : (Jvm.Cond.instanceMethod ({ cls := "SafeCode$Checker", name := "reach", desc := "(II)V" } : Jvm.MethodName)) ∈ lw_all := lw_g (lw_at lw_m5 235 rfl) rfl
theorem q1442 : (Jvm.Cond.code ({ cls := "SafeCode$Checker", name := "reach", desc := "(II)V" } : Jvm.MethodName) prog_4_method_5_code (3 : Nat) (Option.none : Option Jvm.ClassFile.FieldType)) ∈ lw_all := lw_g (lw_at lw_m5 236 rfl) rfl
theorem q1443 : (Jvm.Cond.methodLink "SafeCode$Checker" (69 : Nat) ({ cls := "SafeCode$Checker", name := "spread", desc := "(II)Z" } : Jvm.MethodName)) ∈ lw_all := lw_g (lw_at lw_m5 237 rfl) rfl
theorem q1444 : (Jvm.Cond.privateMethod ({ cls := "SafeCode$Checker", name := "spread", desc := "(II)Z" } : Jvm.MethodName)) ∈ lw_tbl := lw_at lw_m5 238 rfl
theorem q1445 : (Jvm.Cond.instanceMethod ({ cls := "SafeCode$Checker", name := "spread", desc := "(II)Z" } : Jvm.MethodName)) ∈ lw_all := lw_g (lw_at lw_m5 239 rfl) rfl
theorem q1446 : (Jvm.Cond.code ({ cls := "SafeCode$Checker", name := "spread", desc := "(II)Z" } : Jvm.MethodName) prog_4_method_6_code (4 : Nat) (Option.some Jvm.ClassFile.FieldType.boolean)) ∈ lw_all := lw_g (lw_at lw_m6 0 rfl) rfl
theorem q1447 : (Jvm.Cond.methodLink "SafeCode$Checker" (94 : Nat) ({ cls := "SafeCode$Program", name := "takes", desc := "(I)I" } : Jvm.MethodName)) ∈ lw_all := lw_g (lw_at lw_m6 1 rfl) rfl
theorem q1451 : (Jvm.Cond.methodLink "SafeCode$Checker" (98 : Nat) ({ cls := "SafeCode$Program", name := "leaves", desc := "(I)I" } : Jvm.MethodName)) ∈ lw_all := lw_g (lw_at lw_m6 5 rfl) rfl
theorem q1455 : (Jvm.Cond.methodLink "SafeCode$Checker" (101 : Nat) ({ cls := "SafeCode$Program", name := "goesOn", desc := "(I)Z" } : Jvm.MethodName)) ∈ lw_all := lw_g (lw_at lw_m6 9 rfl) rfl
theorem q1456 : (Jvm.Cond.methodLink "SafeCode$Checker" (105 : Nat) ({ cls := "SafeCode$Program", name := "isJump", desc := "(I)Z" } : Jvm.MethodName)) ∈ lw_all := lw_g (lw_at lw_m6 10 rfl) rfl
theorem q1460 : (Jvm.Cond.methodLink "SafeCode$Checker" (73 : Nat) ({ cls := "SafeCode$Checker", name := "covers", desc := "(II)Z" } : Jvm.MethodName)) ∈ lw_all := lw_g (lw_at lw_m6 14 rfl) rfl
theorem q1461 : (Jvm.Cond.privateMethod ({ cls := "SafeCode$Checker", name := "covers", desc := "(II)Z" } : Jvm.MethodName)) ∈ lw_tbl := lw_at lw_m6 15 rfl
theorem q1462 : (Jvm.Cond.instanceMethod ({ cls := "SafeCode$Checker", name := "covers", desc := "(II)Z" } : Jvm.MethodName)) ∈ lw_all := lw_g (lw_at lw_m6 16 rfl) rfl
theorem q1463 : (Jvm.Cond.code ({ cls := "SafeCode$Checker", name := "covers", desc := "(II)Z" } : Jvm.MethodName) prog_4_method_4_code (3 : Nat) (Option.some Jvm.ClassFile.FieldType.boolean)) ∈ lw_all := lw_g (lw_at lw_m6 17 rfl) rfl
theorem q1464 : (Jvm.Cond.methodLink "SafeCode$Checker" (82 : Nat) ({ cls := "SafeCode$Fault", name := "at", desc := "(II)Ljava/lang/IllegalStateException;" } : Jvm.MethodName)) ∈ lw_all := lw_g (lw_at lw_m6 18 rfl) rfl
theorem q1465 : (Jvm.Cond.methodLink "SafeCode$Checker" (52 : Nat) ({ cls := "SafeCode$Checker", name := "findTypes", desc := "(III)V" } : Jvm.MethodName)) ∈ lw_all := lw_g (lw_at lw_m6 19 rfl) rfl
theorem q1466 : (Jvm.Cond.privateMethod ({ cls := "SafeCode$Checker", name := "findTypes", desc := "(III)V" } : Jvm.MethodName)) ∈ lw_tbl := lw_at lw_m6 20 rfl
theorem q1467 : (Jvm.Cond.instanceMethod ({ cls := "SafeCode$Checker", name := "findTypes", desc := "(III)V" } : Jvm.MethodName)) ∈ lw_all := lw_g (lw_at lw_m6 21 rfl) rfl
theorem q1468 : (Jvm.Cond.code ({ cls := "SafeCode$Checker", name := "findTypes", desc := "(III)V" } : Jvm.MethodName) prog_4_method_7_code (6 : Nat) (Option.none : Option Jvm.ClassFile.FieldType)) ∈ lw_all := lw_g (lw_at lw_m6 22 rfl) rfl
theorem q1469 : (Jvm.Cond.methodLink "SafeCode$Checker" (118 : Nat) ({ cls := "SafeCode$Checker", name := "join", desc := "(I)V" } : Jvm.MethodName)) ∈ lw_all := lw_g (lw_at lw_m6 23 rfl) rfl
theorem q1470 : (Jvm.Cond.privateMethod ({ cls := "SafeCode$Checker", name := "join", desc := "(I)V" } : Jvm.MethodName)) ∈ lw_tbl := lw_at lw_m6 24 rfl
theorem q1471 : (Jvm.Cond.instanceMethod ({ cls := "SafeCode$Checker", name := "join", desc := "(I)V" } : Jvm.MethodName)) ∈ lw_all := lw_g (lw_at lw_m6 25 rfl) rfl
theorem q1472 : (Jvm.Cond.code ({ cls := "SafeCode$Checker", name := "join", desc := "(I)V" } : Jvm.MethodName) prog_4_method_10_code (5 : Nat) (Option.none : Option Jvm.ClassFile.FieldType)) ∈ lw_all := lw_g (lw_at lw_m6 26 rfl) rfl
theorem q1473 : (Jvm.Cond.methodLink "SafeCode$Checker" (143 : Nat) ({ cls := "SafeCode$Program", name := "join", desc := "(II)I" } : Jvm.MethodName)) ∈ lw_all := lw_g (lw_at lw_m6 27 rfl) rfl
theorem q1486 : (Jvm.Cond.methodLink "SafeCode$Checker" (122 : Nat) ({ cls := "SafeCode$Checker", name := "caught", desc := "(II)V" } : Jvm.MethodName)) ∈ lw_all := lw_g (lw_at lw_m6 40 rfl) rfl
theorem q1487 : (Jvm.Cond.privateMethod ({ cls := "SafeCode$Checker", name := "caught", desc := "(II)V" } : Jvm.MethodName)) ∈ lw_tbl := lw_at lw_m6 41 rfl
theorem q1488 : (Jvm.Cond.instanceMethod ({ cls := "SafeCode$Checker", name := "caught", desc := "(II)V" } : Jvm.MethodName)) ∈ lw_all := lw_g (lw_at lw_m6 42 rfl) rfl
theorem q1489 : (Jvm.Cond.code ({ cls := "SafeCode$Checker", name := "caught", desc := "(II)V" } : Jvm.MethodName) prog_4_method_9_code (3 : Nat) (Option.none : Option Jvm.ClassFile.FieldType)) ∈ lw_all := lw_g (lw_at lw_m6 43 rfl) rfl
theorem q1490 : (Jvm.Cond.methodLink "SafeCode$Checker" (125 : Nat) ({ cls := "SafeCode$Checker", name := "take", desc := "(I)V" } : Jvm.MethodName)) ∈ lw_all := lw_g (lw_at lw_m6 44 rfl) rfl
theorem q1491 : (Jvm.Cond.privateMethod ({ cls := "SafeCode$Checker", name := "take", desc := "(I)V" } : Jvm.MethodName)) ∈ lw_tbl := lw_at lw_m6 45 rfl
theorem q1492 : (Jvm.Cond.instanceMethod ({ cls := "SafeCode$Checker", name := "take", desc := "(I)V" } : Jvm.MethodName)) ∈ lw_all := lw_g (lw_at lw_m6 46 rfl) rfl
theorem q1493 : (Jvm.Cond.code ({ cls := "SafeCode$Checker", name := "take", desc := "(I)V" } : Jvm.MethodName) prog_4_method_8_code (3 : Nat) (Option.none : Option Jvm.ClassFile.FieldType)) ∈ lw_all := lw_g (lw_at lw_m6 47 rfl) rfl
theorem q1494 : (Jvm.Cond.methodLink "SafeCode$Checker" (140 : Nat) ({ cls := "SafeCode$Checker", name := "push", desc := "(I)V" } : Jvm.MethodName)) ∈ lw_all := lw_g (lw_at lw_m6 48 rfl) rfl
theorem q1495 : (Jvm.Cond.privateMethod ({ cls := "SafeCode$Checker", name := "push", desc := "(I)V" } : Jvm.MethodName)) ∈ lw_tbl := lw_at lw_m6 49 rfl
theorem q1496 : (Jvm.Cond.instanceMethod ({ cls := "SafeCode$Checker", name := "push", desc := "(I)V" } : Jvm.MethodName)) ∈ lw_all := lw_g (lw_at lw_m6 50 rfl) rfl
theorem q1497 : (Jvm.Cond.code ({ cls := "SafeCode$Checker", name := "push", desc := "(I)V" } : Jvm.MethodName) prog_4_method_11_code (2 : Nat) (Option.none : Option Jvm.ClassFile.FieldType)) ∈ lw_all := lw_g (lw_at lw_m6 51 rfl) rfl
theorem q1498 : (Jvm.Cond.methodLink "SafeCode$Checker" (131 : Nat) ({ cls := "SafeCode$Checker", name := "act", desc := "(I)V" } : Jvm.MethodName)) ∈ lw_all := lw_g (lw_at lw_m6 52 rfl) rfl
theorem q1499 : (Jvm.Cond.privateMethod ({ cls := "SafeCode$Checker", name := "act", desc := "(I)V" } : Jvm.MethodName)) ∈ lw_tbl := lw_at lw_m6 53 rfl
theorem q1500 : (Jvm.Cond.instanceMethod ({ cls := "SafeCode$Checker", name := "act", desc := "(I)V" } : Jvm.MethodName)) ∈ lw_all := lw_g (lw_at lw_m6 54 rfl) rfl
theorem q1501 : (Jvm.Cond.code ({ cls := "SafeCode$Checker", name := "act", desc := "(I)V" } : Jvm.MethodName) prog_4_method_12_code (6 : Nat) (Option.none : Option Jvm.ClassFile.FieldType)) ∈ lw_all := lw_g (lw_at lw_m6 55 rfl) rfl
theorem q1502 : (Jvm.Cond.methodLink "SafeCode$Checker" (149 : Nat) ({ cls := "SafeCode$Checker", name := "elementOf", desc := "(I)I" } : Jvm.MethodName)) ∈ lw_all := lw_g (lw_at lw_m6 56 rfl) rfl
theorem q1503 : (Jvm.Cond.static ({ cls := "SafeCode$Checker", name := "elementOf", desc := "(I)I" } : Jvm.MethodName)) ∈ lw_all := lw_g (lw_at lw_m6 57 rfl) rfl
theorem q1504 : (Jvm.Cond.code ({ cls := "SafeCode$Checker", name := "elementOf", desc := "(I)I" } : Jvm.MethodName) prog_4_method_13_code (1 : Nat) (Option.some Jvm.ClassFile.FieldType.int)) ∈ lw_all := lw_g (lw_at lw_m6 58 rfl) rfl
theorem q1505 : (Jvm.Cond.methodLink "SafeCode$Checker" (158 : Nat) ({ cls := "SafeCode$Program", name := "isArray", desc := "(I)Z" } : Jvm.MethodName)) ∈ lw_all := lw_g (lw_at lw_m6 59 rfl) rfl
theorem q1508 : (Jvm.Cond.methodLink "SafeCode$Checker" (161 : Nat) ({ cls := "SafeCode$Program", name := "element", desc := "(I)I" } : Jvm.MethodName)) ∈ lw_all := lw_g (lw_at lw_m6 62 rfl) rfl
theorem q1511 : (Jvm.Cond.methodLink "SafeCode$Checker" (134 : Nat) ({ cls := "SafeCode$Checker", name := "isRight", desc := "(I)Z" } : Jvm.MethodName)) ∈ lw_all := lw_g (lw_at lw_m6 65 rfl) rfl
theorem q1512 : (Jvm.Cond.privateMethod ({ cls := "SafeCode$Checker", name := "isRight", desc := "(I)Z" } : Jvm.MethodName)) ∈ lw_tbl := lw_at lw_m6 66 rfl
theorem q1513 : (Jvm.Cond.instanceMethod ({ cls := "SafeCode$Checker", name := "isRight", desc := "(I)Z" } : Jvm.MethodName)) ∈ lw_all := lw_g (lw_at lw_m6 67 rfl) rfl
theorem q1514 : (Jvm.Cond.code ({ cls := "SafeCode$Checker", name := "isRight", desc := "(I)Z" } : Jvm.MethodName) prog_4_method_17_code (4 : Nat) (Option.some Jvm.ClassFile.FieldType.boolean)) ∈ lw_all := lw_g (lw_at lw_m6 68 rfl) rfl
theorem q1515 : (Jvm.Cond.methodLink "SafeCode$Checker" (164 : Nat) ({ cls := "SafeCode$Checker", name := "top", desc := "(I)I" } : Jvm.MethodName)) ∈ lw_all := lw_g (lw_at lw_m6 69 rfl) rfl
theorem q1516 : (Jvm.Cond.privateMethod ({ cls := "SafeCode$Checker", name := "top", desc := "(I)I" } : Jvm.MethodName)) ∈ lw_tbl := lw_at lw_m6 70 rfl
theorem q1517 : (Jvm.Cond.instanceMethod ({ cls := "SafeCode$Checker", name := "top", desc := "(I)I" } : Jvm.MethodName)) ∈ lw_all := lw_g (lw_at lw_m6 71 rfl) rfl
theorem q1518 : (Jvm.Cond.code ({ cls := "SafeCode$Checker", name := "top", desc := "(I)I" } : Jvm.MethodName) prog_4_method_14_code (2 : Nat) (Option.some Jvm.ClassFile.FieldType.int)) ∈ lw_all := lw_g (lw_at lw_m6 72 rfl) rfl
theorem q1519 : (Jvm.Cond.methodLink "SafeCode$Checker" (166 : Nat) ({ cls := "SafeCode$Checker", name := "isRef", desc := "(I)Z" } : Jvm.MethodName)) ∈ lw_all := lw_g (lw_at lw_m6 73 rfl) rfl
theorem q1520 : (Jvm.Cond.static ({ cls := "SafeCode$Checker", name := "isRef", desc := "(I)Z" } : Jvm.MethodName)) ∈ lw_all := lw_g (lw_at lw_m6 74 rfl) rfl
theorem q1521 : (Jvm.Cond.code ({ cls := "SafeCode$Checker", name := "isRef", desc := "(I)Z" } : Jvm.MethodName) prog_4_method_15_code (1 : Nat) (Option.some Jvm.ClassFile.FieldType.boolean)) ∈ lw_all := lw_g (lw_at lw_m6 75 rfl) rfl
theorem q1522 : (Jvm.Cond.methodLink "SafeCode$Checker" (169 : Nat) ({ cls := "SafeCode$Checker", name := "isRow", desc := "(I)Z" } : Jvm.MethodName)) ∈ lw_all := lw_g (lw_at lw_m6 76 rfl) rfl
theorem q1523 : (Jvm.Cond.static ({ cls := "SafeCode$Checker", name := "isRow", desc := "(I)Z" } : Jvm.MethodName)) ∈ lw_all := lw_g (lw_at lw_m6 77 rfl) rfl
theorem q1524 : (Jvm.Cond.code ({ cls := "SafeCode$Checker", name := "isRow", desc := "(I)Z" } : Jvm.MethodName) prog_4_method_16_code (1 : Nat) (Option.some Jvm.ClassFile.FieldType.boolean)) ∈ lw_all := lw_g (lw_at lw_m6 78 rfl) rfl
theorem q1525 : (Jvm.Cond.methodLink "SafeCode$Checker" (172 : Nat) ({ cls := "SafeCode$Program", name := "isBelow", desc := "(II)Z" } : Jvm.MethodName)) ∈ lw_all := lw_g (lw_at lw_m6 79 rfl) rfl
theorem q1526 : (Jvm.Cond.methodLink "SafeCode$Checker" (178 : Nat) ({ cls := "SafeCode$Checker", name := "areArguments", desc := "(I)Z" } : Jvm.MethodName)) ∈ lw_all := lw_g (lw_at lw_m6 80 rfl) rfl
theorem q1527 : (Jvm.Cond.privateMethod ({ cls := "SafeCode$Checker", name := "areArguments", desc := "(I)Z" } : Jvm.MethodName)) ∈ lw_tbl := lw_at lw_m6 81 rfl
theorem q1528 : (Jvm.Cond.instanceMethod ({ cls := "SafeCode$Checker", name := "areArguments", desc := "(I)Z" } : Jvm.MethodName)) ∈ lw_all := lw_g (lw_at lw_m6 82 rfl) rfl
theorem q1529 : (Jvm.Cond.code ({ cls := "SafeCode$Checker", name := "areArguments", desc := "(I)Z" } : Jvm.MethodName) prog_4_method_18_code (4 : Nat) (Option.some Jvm.ClassFile.FieldType.boolean)) ∈ lw_all := lw_g (lw_at lw_m6 83 rfl) rfl
theorem q1530 : (Jvm.Cond.methodLink "SafeCode$Checker" (181 : Nat) ({ cls := "SafeCode$Checker", name := "areInts", desc := "(I)Z" } : Jvm.MethodName)) ∈ lw_all := lw_g (lw_at lw_m6 84 rfl) rfl
theorem q1531 : (Jvm.Cond.privateMethod ({ cls := "SafeCode$Checker", name := "areInts", desc := "(I)Z" } : Jvm.MethodName)) ∈ lw_tbl := lw_at lw_m6 85 rfl
theorem q1532 : (Jvm.Cond.instanceMethod ({ cls := "SafeCode$Checker", name := "areInts", desc := "(I)Z" } : Jvm.MethodName)) ∈ lw_all := lw_g (lw_at lw_m6 86 rfl) rfl
theorem q1533 : (Jvm.Cond.code ({ cls := "SafeCode$Checker", name := "areInts", desc := "(I)Z" } : Jvm.MethodName) prog_4_method_19_code (3 : Nat) (Option.some Jvm.ClassFile.FieldType.boolean)) ∈ lw_all := lw_g (lw_at lw_m6 87 rfl) rfl
theorem in_X6 : ∀ w ∈ wsX60, w ∈ lw_all := lw_in wsX60 [510, 512, 514, 516, 518, 520, 522, 524] (by decide +kernel) (by decide +kernel)
/-! SafeCode$Analysis -/
def RX7 : String := "SafeCode$Analysis"
def TX7 : u_T := fun k => match k with
  | 0 => ("SafeCode$Analysis", "p", "LSafeCode$Program;", false)
  | 1 => ("SafeCode$Analysis", "t", "LSafeCode$Thresholds;", true)
  | 2 => ("SafeCode$Analysis", "arithmetic", "LSafeCode$Arithmetic;", true)
  | 3 => ("SafeCode$Analysis", "states", "LSafeCode$Slots;", true)
  | 4 => ("SafeCode$Analysis", "reached", "[Z", true)
  | 5 => ("SafeCode$Analysis", "errors", "[I", true)
  | 6 => ("SafeCode$Analysis", "escapes", "[J", true)
  | 7 => ("SafeCode$Analysis", "fields", "LSafeCode$Unknowns;", true)
  | 8 => ("SafeCode$Analysis", "elements", "LSafeCode$Unknowns;", true)
  | 9 => ("SafeCode$Analysis", "lengths", "LSafeCode$Unknowns;", true)
  | 10 => ("SafeCode$Analysis", "parameters", "LSafeCode$Unknowns;", true)
  | 11 => ("SafeCode$Analysis", "results", "LSafeCode$Unknowns;", true)
  | 12 => ("SafeCode$Analysis", "entered", "[Z", true)
  | 13 => ("SafeCode$Analysis", "ends", "[Z", true)
  | 14 => ("SafeCode$Analysis", "thrown", "[J", true)
  | 15 => ("SafeCode$Analysis", "sitesBelow", "[J", true)
  | 16 => ("SafeCode$Analysis", "waiting", "[I", true)
  | 17 => ("SafeCode$Analysis", "waits", "[Z", true)
  | 18 => ("SafeCode$Analysis", "first", "I", false)
  | 19 => ("SafeCode$Analysis", "count", "I", false)
  | 20 => ("SafeCode$Analysis", "now", "LSafeCode$Slots;", true)
  | 21 => ("SafeCode$Analysis", "other", "LSafeCode$Slots;", true)
  | 22 => ("SafeCode$Analysis", "top", "I", false)
  | 23 => ("SafeCode$Analysis", "raised", "J", false)
  | _ => ("SafeCode$Analysis", "told", "I", false)
def tyX7 : Nat → FieldType := fun k => match k with
  | 0 => .object "SafeCode$Program"
  | 1 => .object "SafeCode$Thresholds"
  | 2 => .object "SafeCode$Arithmetic"
  | 3 => .object "SafeCode$Slots"
  | 4 => .array .boolean
  | 5 => .array .int
  | 6 => .array .long
  | 7 => .object "SafeCode$Unknowns"
  | 8 => .object "SafeCode$Unknowns"
  | 9 => .object "SafeCode$Unknowns"
  | 10 => .object "SafeCode$Unknowns"
  | 11 => .object "SafeCode$Unknowns"
  | 12 => .array .boolean
  | 13 => .array .boolean
  | 14 => .array .long
  | 15 => .array .long
  | 16 => .array .int
  | 17 => .array .boolean
  | 18 => .int
  | 19 => .int
  | 20 => .object "SafeCode$Slots"
  | 21 => .object "SafeCode$Slots"
  | 22 => .int
  | 23 => .long
  | _ => .int
abbrev wsX70 : List Cond := u_ws RX7 TX7 25
theorem nmX7 : ∀ a, a < 25 → ∀ b, b < 25 → a ≠ b → (TX7 a).2.1 ≠ (TX7 b).2.1 := by decide +kernel
theorem tyX7_ok : ∀ k, k < 25 → parseFieldDescriptor (TX7 k).2.2.1 = some (tyX7 k) := by decide +kernel
abbrev cX7_init : ByteArray := prog_2_method_1_code
def yX7_init : MethodName := ⟨RX7, "<init>", "()V"⟩
abbrev cX7_seek : ByteArray := prog_2_method_2_code
def yX7_seek : MethodName := ⟨RX7, "seek", "(LSafeCode$Program;)V"⟩
abbrev cX7_begin : ByteArray := prog_2_method_3_code
def yX7_begin : MethodName := ⟨RX7, "begin", "()V"⟩
abbrev cX7_sitesOf : ByteArray := prog_2_method_4_code
def yX7_sitesOf : MethodName := ⟨RX7, "sitesOf", "(I)J"⟩
abbrev cX7_enter : ByteArray := prog_2_method_8_code
def yX7_enter : MethodName := ⟨RX7, "enter", "(I)V"⟩
abbrev cX7_flow : ByteArray := prog_2_method_7_code
def yX7_flow : MethodName := ⟨RX7, "flow", "(LSafeCode$Slots;II)V"⟩
abbrev cX7_wake : ByteArray := prog_2_method_5_code
def yX7_wake : MethodName := ⟨RX7, "wake", "(I)V"⟩
abbrev cX7_act : ByteArray := prog_2_method_16_code
def yX7_act : MethodName := ⟨RX7, "act", "(I)V"⟩
abbrev cX7_branch : ByteArray := prog_2_method_24_code
def yX7_branch : MethodName := ⟨RX7, "branch", "(II)Z"⟩
abbrev cX7_pop : ByteArray := prog_2_method_12_code
def yX7_pop : MethodName := ⟨RX7, "pop", "()I"⟩
abbrev cX7_way : ByteArray := prog_2_method_25_code
def yX7_way : MethodName := ⟨RX7, "way", "(LSafeCode$Slots;IIIZ)Z"⟩
abbrev cX7_nullWay : ByteArray := prog_2_method_26_code
def yX7_nullWay : MethodName := ⟨RX7, "nullWay", "(LSafeCode$Slots;IZ)Z"⟩
abbrev cX7_objects : ByteArray := prog_2_method_14_code
def yX7_objects : MethodName := ⟨RX7, "objects", "(J)J"⟩
abbrev cX7_keep : ByteArray := prog_2_method_28_code
def yX7_keep : MethodName := ⟨RX7, "keep", "(LSafeCode$Slots;IJ)Z"⟩
abbrev cX7_sameWay : ByteArray := prog_2_method_27_code
def yX7_sameWay : MethodName := ⟨RX7, "sameWay", "(LSafeCode$Slots;II)Z"⟩
abbrev cX7_contrary : ByteArray := prog_2_method_23_code
def yX7_contrary : MethodName := ⟨RX7, "contrary", "(I)I"⟩
abbrev cX7_relate : ByteArray := prog_2_method_31_code
def yX7_relate : MethodName := ⟨RX7, "relate", "(LSafeCode$Slots;III)Z"⟩
abbrev cX7_cut : ByteArray := prog_2_method_29_code
def yX7_cut : MethodName := ⟨RX7, "cut", "(LSafeCode$Slots;IJJ)Z"⟩
abbrev cX7_bit : ByteArray := prog_2_method_30_code
def yX7_bit : MethodName := ⟨RX7, "bit", "(I)I"⟩
abbrev cX7_learn : ByteArray := prog_2_method_32_code
def yX7_learn : MethodName := ⟨RX7, "learn", "(LSafeCode$Slots;I)Z"⟩
abbrev cX7_compute : ByteArray := prog_2_method_22_code
def yX7_compute : MethodName := ⟨RX7, "compute", "(I)Z"⟩
abbrev cX7_pushRange : ByteArray := prog_2_method_10_code
def yX7_pushRange : MethodName := ⟨RX7, "pushRange", "(II)V"⟩
abbrev cX7_push : ByteArray := prog_2_method_9_code
def yX7_push : MethodName := ⟨RX7, "push", "()I"⟩
abbrev cX7_raise : ByteArray := prog_2_method_13_code
def yX7_raise : MethodName := ⟨RX7, "raise", "(I)V"⟩
abbrev cX7_heap : ByteArray := prog_2_method_34_code
def yX7_heap : MethodName := ⟨RX7, "heap", "(II)Z"⟩
abbrev cX7_makeObject : ByteArray := prog_2_method_36_code
def yX7_makeObject : MethodName := ⟨RX7, "makeObject", "(I)V"⟩
abbrev cX7_zero : ByteArray := prog_2_method_35_code
def yX7_zero : MethodName := ⟨RX7, "zero", "(I)V"⟩
abbrev cX7_wakeAll : ByteArray := prog_2_method_6_code
def yX7_wakeAll : MethodName := ⟨RX7, "wakeAll", "(II)V"⟩
abbrev cX7_pushSites : ByteArray := prog_2_method_11_code
def yX7_pushSites : MethodName := ⟨RX7, "pushSites", "(J)V"⟩
abbrev cX7_makeArray : ByteArray := prog_2_method_37_code
def yX7_makeArray : MethodName := ⟨RX7, "makeArray", "(II)Z"⟩
abbrev cX7_length : ByteArray := prog_2_method_38_code
def yX7_length : MethodName := ⟨RX7, "length", "(I)Z"⟩
abbrev cX7_dereference : ByteArray := prog_2_method_33_code
def yX7_dereference : MethodName := ⟨RX7, "dereference", "(I)Z"⟩
abbrev cX7_hasNull : ByteArray := prog_2_method_15_code
def yX7_hasNull : MethodName := ⟨RX7, "hasNull", "(J)Z"⟩
abbrev cX7_loadAll : ByteArray := prog_2_method_40_code
def yX7_loadAll : MethodName := ⟨RX7, "loadAll", "(ILSafeCode$Unknowns;II)Z"⟩
abbrev cX7_joined : ByteArray := prog_2_method_39_code
def yX7_joined : MethodName := ⟨RX7, "joined", "(LSafeCode$Unknowns;I)V"⟩
abbrev cX7_index : ByteArray := prog_2_method_41_code
def yX7_index : MethodName := ⟨RX7, "index", "(II)Z"⟩
abbrev cX7_storeElements : ByteArray := prog_2_method_42_code
def yX7_storeElements : MethodName := ⟨RX7, "storeElements", "(II)Z"⟩
abbrev cX7_storeFields : ByteArray := prog_2_method_43_code
def yX7_storeFields : MethodName := ⟨RX7, "storeFields", "(III)Z"⟩
abbrev cX7_cast : ByteArray := prog_2_method_44_code
def yX7_cast : MethodName := ⟨RX7, "cast", "(II)Z"⟩
abbrev cX7_is : ByteArray := prog_2_method_45_code
def yX7_is : MethodName := ⟨RX7, "is", "(II)Z"⟩
abbrev cX7_call : ByteArray := prog_2_method_46_code
def yX7_call : MethodName := ⟨RX7, "call", "(II)Z"⟩
abbrev cX7_pass : ByteArray := prog_2_method_47_code
def yX7_pass : MethodName := ⟨RX7, "pass", "(IIJZ)Z"⟩
abbrev cX7_simple : ByteArray := prog_2_method_18_code
def yX7_simple : MethodName := ⟨RX7, "simple", "(II)Z"⟩
abbrev cX7_increase : ByteArray := prog_2_method_19_code
def yX7_increase : MethodName := ⟨RX7, "increase", "(II)V"⟩
abbrev cX7_throwing : ByteArray := prog_2_method_20_code
def yX7_throwing : MethodName := ⟨RX7, "throwing", "(I)V"⟩
abbrev cX7_end : ByteArray := prog_2_method_21_code
def yX7_end : MethodName := ⟨RX7, "end", "(II)V"⟩
abbrev cX7_spread : ByteArray := prog_2_method_17_code
def yX7_spread : MethodName := ⟨RX7, "spread", "(I)V"⟩
abbrev cX7_errorsOf : ByteArray := prog_2_method_48_code
def yX7_errorsOf : MethodName := ⟨RX7, "errorsOf", "(I)I"⟩
theorem q258 : (Jvm.Cond.initialized "SafeCode$Analysis") ∈ lw_all := lw_g (lw_at lw_m1 12 rfl) rfl
theorem q529 : (Jvm.Cond.instantiable "SafeCode$Analysis" (25 : Nat)) ∈ lw_all := lw_g (lw_at lw_m2 43 rfl) rfl
theorem q531 : (Jvm.Cond.instanceMethod ({ cls := "SafeCode$Analysis", name := "<init>", desc := "()V" } : Jvm.MethodName)) ∈ lw_all := lw_g (lw_at lw_m2 45 rfl) rfl
theorem q532 : (Jvm.Cond.code ({ cls := "SafeCode$Analysis", name := "<init>", desc := "()V" } : Jvm.MethodName) prog_2_method_1_code (1 : Nat) (Option.none : Option Jvm.ClassFile.FieldType)) ∈ lw_all := lw_g (lw_at lw_m2 46 rfl) rfl
theorem q533 : (Jvm.Cond.methodLink "SafeCode$Analysis" (3 : Nat) ({ cls := "java/lang/Object", name := "<init>", desc := "()V" } : Jvm.MethodName)) ∈ lw_all := lw_g (lw_at lw_m2 47 rfl) rfl
theorem q534 : (Jvm.Cond.classLink "SafeCode$Analysis" (9 : Nat) "SafeCode$Thresholds") ∈ lw_all := lw_g (lw_at lw_m2 48 rfl) rfl
theorem q536 : (Jvm.Cond.methodLinkNest "SafeCode$Analysis" (11 : Nat) ({ cls := "SafeCode$Thresholds", name := "<init>", desc := "()V" } : Jvm.MethodName) "SafeCode") ∈ lw_tbl := lw_at lw_m2 50 rfl
theorem q548 : (Jvm.Cond.classLink "SafeCode$Analysis" (18 : Nat) "SafeCode$Arithmetic") ∈ lw_all := lw_g (lw_at lw_m2 62 rfl) rfl
theorem q550 : (Jvm.Cond.methodLink "SafeCode$Analysis" (20 : Nat) ({ cls := "SafeCode$Arithmetic", name := "<init>", desc := "(LSafeCode$Thresholds;)V" } : Jvm.MethodName)) ∈ lw_all := lw_g (lw_at lw_m2 64 rfl) rfl
theorem q556 : (Jvm.Cond.fieldLink "SafeCode$Analysis" (293 : Nat) "SafeCode$Arithmetic" "low" "I") ∈ lw_all := lw_g (lw_at lw_m2 70 rfl) rfl
theorem q558 : (Jvm.Cond.fieldLink "SafeCode$Analysis" (295 : Nat) "SafeCode$Arithmetic" "high" "I") ∈ lw_all := lw_g (lw_at lw_m2 72 rfl) rfl
theorem q572 : (Jvm.Cond.classLink "SafeCode$Analysis" (27 : Nat) "SafeCode$Slots") ∈ lw_all := lw_g (lw_at lw_m2 86 rfl) rfl
theorem q574 : (Jvm.Cond.methodLink "SafeCode$Analysis" (29 : Nat) ({ cls := "SafeCode$Slots", name := "<init>", desc := "(I)V" } : Jvm.MethodName)) ∈ lw_all := lw_g (lw_at lw_m2 88 rfl) rfl
theorem q583 : (Jvm.Cond.fieldLink "SafeCode$Analysis" (265 : Nat) "SafeCode$Slots" "copy" "[I") ∈ lw_all := lw_g (lw_at lw_m2 97 rfl) rfl
theorem q586 : (Jvm.Cond.fieldLink "SafeCode$Analysis" (366 : Nat) "SafeCode$Slots" "less" "[I") ∈ lw_all := lw_g (lw_at lw_m2 100 rfl) rfl
theorem q589 : (Jvm.Cond.fieldLink "SafeCode$Analysis" (369 : Nat) "SafeCode$Slots" "under" "[I") ∈ lw_all := lw_g (lw_at lw_m2 103 rfl) rfl
theorem q592 : (Jvm.Cond.fieldLink "SafeCode$Analysis" (372 : Nat) "SafeCode$Slots" "size" "[I") ∈ lw_all := lw_g (lw_at lw_m2 106 rfl) rfl
theorem q602 : (Jvm.Cond.fieldLink "SafeCode$Analysis" (283 : Nat) "SafeCode$Slots" "low" "[I") ∈ lw_all := lw_g (lw_at lw_m2 116 rfl) rfl
theorem q603 : (Jvm.Cond.fieldLink "SafeCode$Analysis" (448 : Nat) "SafeCode$Unknowns" "low" "[I") ∈ lw_all := lw_g (lw_at lw_m2 117 rfl) rfl
theorem q609 : (Jvm.Cond.fieldLink "SafeCode$Analysis" (286 : Nat) "SafeCode$Slots" "high" "[I") ∈ lw_all := lw_g (lw_at lw_m2 123 rfl) rfl
theorem q610 : (Jvm.Cond.fieldLink "SafeCode$Analysis" (449 : Nat) "SafeCode$Unknowns" "high" "[I") ∈ lw_all := lw_g (lw_at lw_m2 124 rfl) rfl
theorem q614 : (Jvm.Cond.fieldLink "SafeCode$Analysis" (297 : Nat) "SafeCode$Slots" "sites" "[J") ∈ lw_all := lw_g (lw_at lw_m2 128 rfl) rfl
theorem q633 : (Jvm.Cond.classLink "SafeCode$Analysis" (48 : Nat) "SafeCode$Unknowns") ∈ lw_all := lw_g (lw_at lw_m2 147 rfl) rfl
theorem q635 : (Jvm.Cond.methodLink "SafeCode$Analysis" (50 : Nat) ({ cls := "SafeCode$Unknowns", name := "<init>", desc := "(I)V" } : Jvm.MethodName)) ∈ lw_all := lw_g (lw_at lw_m2 149 rfl) rfl
theorem q641 : (Jvm.Cond.fieldLink "SafeCode$Analysis" (437 : Nat) "SafeCode$Unknowns" "there" "[Z") ∈ lw_all := lw_g (lw_at lw_m2 155 rfl) rfl
theorem q649 : (Jvm.Cond.fieldLink "SafeCode$Analysis" (91 : Nat) "SafeCode$Analysis" "p" "LSafeCode$Program;") ∈ lw_all := lw_g (lw_at lw_m2 163 rfl) rfl
theorem q650 : (Jvm.Cond.fieldLink "SafeCode$Analysis" (12 : Nat) "SafeCode$Analysis" "t" "LSafeCode$Thresholds;") ∈ lw_all := lw_g (lw_at lw_m2 164 rfl) rfl
theorem q652 : (Jvm.Cond.fieldLink "SafeCode$Analysis" (23 : Nat) "SafeCode$Analysis" "arithmetic" "LSafeCode$Arithmetic;") ∈ lw_all := lw_g (lw_at lw_m2 166 rfl) rfl
theorem q653 : (Jvm.Cond.fieldLink "SafeCode$Analysis" (32 : Nat) "SafeCode$Analysis" "states" "LSafeCode$Slots;") ∈ lw_all := lw_g (lw_at lw_m2 167 rfl) rfl
theorem q655 : (Jvm.Cond.fieldLink "SafeCode$Analysis" (36 : Nat) "SafeCode$Analysis" "reached" "[Z") ∈ lw_all := lw_g (lw_at lw_m2 169 rfl) rfl
theorem q657 : (Jvm.Cond.fieldLink "SafeCode$Analysis" (40 : Nat) "SafeCode$Analysis" "errors" "[I") ∈ lw_all := lw_g (lw_at lw_m2 171 rfl) rfl
theorem q658 : (Jvm.Cond.fieldLink "SafeCode$Analysis" (44 : Nat) "SafeCode$Analysis" "escapes" "[J") ∈ lw_all := lw_g (lw_at lw_m2 172 rfl) rfl
theorem q660 : (Jvm.Cond.fieldLink "SafeCode$Analysis" (51 : Nat) "SafeCode$Analysis" "fields" "LSafeCode$Unknowns;") ∈ lw_all := lw_g (lw_at lw_m2 174 rfl) rfl
theorem q661 : (Jvm.Cond.fieldLink "SafeCode$Analysis" (55 : Nat) "SafeCode$Analysis" "elements" "LSafeCode$Unknowns;") ∈ lw_all := lw_g (lw_at lw_m2 175 rfl) rfl
theorem q662 : (Jvm.Cond.fieldLink "SafeCode$Analysis" (58 : Nat) "SafeCode$Analysis" "lengths" "LSafeCode$Unknowns;") ∈ lw_all := lw_g (lw_at lw_m2 176 rfl) rfl
theorem q664 : (Jvm.Cond.fieldLink "SafeCode$Analysis" (61 : Nat) "SafeCode$Analysis" "parameters" "LSafeCode$Unknowns;") ∈ lw_all := lw_g (lw_at lw_m2 178 rfl) rfl
theorem q665 : (Jvm.Cond.fieldLink "SafeCode$Analysis" (64 : Nat) "SafeCode$Analysis" "results" "LSafeCode$Unknowns;") ∈ lw_all := lw_g (lw_at lw_m2 179 rfl) rfl
theorem q666 : (Jvm.Cond.fieldLink "SafeCode$Analysis" (67 : Nat) "SafeCode$Analysis" "entered" "[Z") ∈ lw_all := lw_g (lw_at lw_m2 180 rfl) rfl
theorem q667 : (Jvm.Cond.fieldLink "SafeCode$Analysis" (70 : Nat) "SafeCode$Analysis" "ends" "[Z") ∈ lw_all := lw_g (lw_at lw_m2 181 rfl) rfl
theorem q668 : (Jvm.Cond.fieldLink "SafeCode$Analysis" (73 : Nat) "SafeCode$Analysis" "thrown" "[J") ∈ lw_all := lw_g (lw_at lw_m2 182 rfl) rfl
theorem q670 : (Jvm.Cond.fieldLink "SafeCode$Analysis" (76 : Nat) "SafeCode$Analysis" "sitesBelow" "[J") ∈ lw_all := lw_g (lw_at lw_m2 184 rfl) rfl
theorem q671 : (Jvm.Cond.fieldLink "SafeCode$Analysis" (79 : Nat) "SafeCode$Analysis" "waiting" "[I") ∈ lw_all := lw_g (lw_at lw_m2 185 rfl) rfl
theorem q672 : (Jvm.Cond.fieldLink "SafeCode$Analysis" (82 : Nat) "SafeCode$Analysis" "waits" "[Z") ∈ lw_all := lw_g (lw_at lw_m2 186 rfl) rfl
theorem q673 : (Jvm.Cond.fieldLink "SafeCode$Analysis" (110 : Nat) "SafeCode$Analysis" "first" "I") ∈ lw_all := lw_g (lw_at lw_m2 187 rfl) rfl
theorem q674 : (Jvm.Cond.fieldLink "SafeCode$Analysis" (107 : Nat) "SafeCode$Analysis" "count" "I") ∈ lw_all := lw_g (lw_at lw_m2 188 rfl) rfl
theorem q675 : (Jvm.Cond.fieldLink "SafeCode$Analysis" (85 : Nat) "SafeCode$Analysis" "now" "LSafeCode$Slots;") ∈ lw_all := lw_g (lw_at lw_m2 189 rfl) rfl
theorem q676 : (Jvm.Cond.fieldLink "SafeCode$Analysis" (88 : Nat) "SafeCode$Analysis" "other" "LSafeCode$Slots;") ∈ lw_all := lw_g (lw_at lw_m2 190 rfl) rfl
theorem q677 : (Jvm.Cond.fieldLink "SafeCode$Analysis" (178 : Nat) "SafeCode$Analysis" "top" "I") ∈ lw_all := lw_g (lw_at lw_m2 191 rfl) rfl
theorem q678 : (Jvm.Cond.fieldLink "SafeCode$Analysis" (193 : Nat) "SafeCode$Analysis" "raised" "J") ∈ lw_all := lw_g (lw_at lw_m2 192 rfl) rfl
theorem q679 : (Jvm.Cond.fieldLink "SafeCode$Analysis" (197 : Nat) "SafeCode$Analysis" "told" "I") ∈ lw_all := lw_g (lw_at lw_m2 193 rfl) rfl
theorem q680 : (Jvm.Cond.lays "SafeCode$Analysis" "SafeCode$Analysis" "p" "LSafeCode$Program;") ∈ lw_all := lw_g (lw_at lw_m2 194 rfl) rfl
theorem q681 : (Jvm.Cond.soleField "SafeCode$Analysis" "p") ∈ lw_all := lw_g (lw_at lw_m2 195 rfl) rfl
theorem q682 : (Jvm.Cond.laysFinal "SafeCode$Analysis" "SafeCode$Analysis" "t" "LSafeCode$Thresholds;") ∈ lw_all := lw_g (lw_at lw_m2 196 rfl) rfl
theorem q683 : (Jvm.Cond.soleField "SafeCode$Analysis" "t") ∈ lw_all := lw_g (lw_at lw_m2 197 rfl) rfl
theorem q684 : (Jvm.Cond.laysFinal "SafeCode$Analysis" "SafeCode$Analysis" "arithmetic" "LSafeCode$Arithmetic;") ∈ lw_all := lw_g (lw_at lw_m2 198 rfl) rfl
theorem q685 : (Jvm.Cond.soleField "SafeCode$Analysis" "arithmetic") ∈ lw_all := lw_g (lw_at lw_m2 199 rfl) rfl
theorem q686 : (Jvm.Cond.laysFinal "SafeCode$Analysis" "SafeCode$Analysis" "states" "LSafeCode$Slots;") ∈ lw_all := lw_g (lw_at lw_m2 200 rfl) rfl
theorem q687 : (Jvm.Cond.soleField "SafeCode$Analysis" "states") ∈ lw_all := lw_g (lw_at lw_m2 201 rfl) rfl
theorem q688 : (Jvm.Cond.laysFinal "SafeCode$Analysis" "SafeCode$Analysis" "reached" "[Z") ∈ lw_all := lw_g (lw_at lw_m2 202 rfl) rfl
theorem q689 : (Jvm.Cond.soleField "SafeCode$Analysis" "reached") ∈ lw_all := lw_g (lw_at lw_m2 203 rfl) rfl
theorem q690 : (Jvm.Cond.laysFinal "SafeCode$Analysis" "SafeCode$Analysis" "errors" "[I") ∈ lw_all := lw_g (lw_at lw_m2 204 rfl) rfl
theorem q691 : (Jvm.Cond.soleField "SafeCode$Analysis" "errors") ∈ lw_all := lw_g (lw_at lw_m2 205 rfl) rfl
theorem q692 : (Jvm.Cond.laysFinal "SafeCode$Analysis" "SafeCode$Analysis" "escapes" "[J") ∈ lw_all := lw_g (lw_at lw_m2 206 rfl) rfl
theorem q693 : (Jvm.Cond.soleField "SafeCode$Analysis" "escapes") ∈ lw_all := lw_g (lw_at lw_m2 207 rfl) rfl
theorem q694 : (Jvm.Cond.laysFinal "SafeCode$Analysis" "SafeCode$Analysis" "fields" "LSafeCode$Unknowns;") ∈ lw_all := lw_g (lw_at lw_m2 208 rfl) rfl
theorem q695 : (Jvm.Cond.soleField "SafeCode$Analysis" "fields") ∈ lw_all := lw_g (lw_at lw_m2 209 rfl) rfl
theorem q696 : (Jvm.Cond.laysFinal "SafeCode$Analysis" "SafeCode$Analysis" "elements" "LSafeCode$Unknowns;") ∈ lw_all := lw_g (lw_at lw_m2 210 rfl) rfl
theorem q697 : (Jvm.Cond.soleField "SafeCode$Analysis" "elements") ∈ lw_all := lw_g (lw_at lw_m2 211 rfl) rfl
theorem q698 : (Jvm.Cond.laysFinal "SafeCode$Analysis" "SafeCode$Analysis" "lengths" "LSafeCode$Unknowns;") ∈ lw_all := lw_g (lw_at lw_m2 212 rfl) rfl
theorem q699 : (Jvm.Cond.soleField "SafeCode$Analysis" "lengths") ∈ lw_all := lw_g (lw_at lw_m2 213 rfl) rfl
theorem q700 : (Jvm.Cond.laysFinal "SafeCode$Analysis" "SafeCode$Analysis" "parameters" "LSafeCode$Unknowns;") ∈ lw_all := lw_g (lw_at lw_m2 214 rfl) rfl
theorem q701 : (Jvm.Cond.soleField "SafeCode$Analysis" "parameters") ∈ lw_all := lw_g (lw_at lw_m2 215 rfl) rfl
theorem q702 : (Jvm.Cond.laysFinal "SafeCode$Analysis" "SafeCode$Analysis" "results" "LSafeCode$Unknowns;") ∈ lw_all := lw_g (lw_at lw_m2 216 rfl) rfl
theorem q703 : (Jvm.Cond.soleField "SafeCode$Analysis" "results") ∈ lw_all := lw_g (lw_at lw_m2 217 rfl) rfl
theorem q704 : (Jvm.Cond.laysFinal "SafeCode$Analysis" "SafeCode$Analysis" "entered" "[Z") ∈ lw_all := lw_g (lw_at lw_m2 218 rfl) rfl
theorem q705 : (Jvm.Cond.soleField "SafeCode$Analysis" "entered") ∈ lw_all := lw_g (lw_at lw_m2 219 rfl) rfl
theorem q706 : (Jvm.Cond.laysFinal "SafeCode$Analysis" "SafeCode$Analysis" "ends" "[Z") ∈ lw_all := lw_g (lw_at lw_m2 220 rfl) rfl
theorem q707 : (Jvm.Cond.soleField "SafeCode$Analysis" "ends") ∈ lw_all := lw_g (lw_at lw_m2 221 rfl) rfl
theorem q708 : (Jvm.Cond.laysFinal "SafeCode$Analysis" "SafeCode$Analysis" "thrown" "[J") ∈ lw_all := lw_g (lw_at lw_m2 222 rfl) rfl
theorem q709 : (Jvm.Cond.soleField "SafeCode$Analysis" "thrown") ∈ lw_all := lw_g (lw_at lw_m2 223 rfl) rfl
theorem q710 : (Jvm.Cond.laysFinal "SafeCode$Analysis" "SafeCode$Analysis" "sitesBelow" "[J") ∈ lw_all := lw_g (lw_at lw_m2 224 rfl) rfl
theorem q711 : (Jvm.Cond.soleField "SafeCode$Analysis" "sitesBelow") ∈ lw_all := lw_g (lw_at lw_m2 225 rfl) rfl
theorem q712 : (Jvm.Cond.laysFinal "SafeCode$Analysis" "SafeCode$Analysis" "waiting" "[I") ∈ lw_all := lw_g (lw_at lw_m2 226 rfl) rfl
theorem q713 : (Jvm.Cond.soleField "SafeCode$Analysis" "waiting") ∈ lw_all := lw_g (lw_at lw_m2 227 rfl) rfl
theorem q714 : (Jvm.Cond.laysFinal "SafeCode$Analysis" "SafeCode$Analysis" "waits" "[Z") ∈ lw_all := lw_g (lw_at lw_m2 228 rfl) rfl
theorem q715 : (Jvm.Cond.soleField "SafeCode$Analysis" "waits") ∈ lw_all := lw_g (lw_at lw_m2 229 rfl) rfl
theorem q716 : (Jvm.Cond.lays "SafeCode$Analysis" "SafeCode$Analysis" "first" "I") ∈ lw_all := lw_g (lw_at lw_m2 230 rfl) rfl
theorem q717 : (Jvm.Cond.soleField "SafeCode$Analysis" "first") ∈ lw_all := lw_g (lw_at lw_m2 231 rfl) rfl
theorem q718 : (Jvm.Cond.lays "SafeCode$Analysis" "SafeCode$Analysis" "count" "I") ∈ lw_all := lw_g (lw_at lw_m2 232 rfl) rfl
theorem q719 : (Jvm.Cond.soleField "SafeCode$Analysis" "count") ∈ lw_all := lw_g (lw_at lw_m2 233 rfl) rfl
theorem q720 : (Jvm.Cond.laysFinal "SafeCode$Analysis" "SafeCode$Analysis" "now" "LSafeCode$Slots;") ∈ lw_all := lw_g (lw_at lw_m2 234 rfl) rfl
theorem q721 : (Jvm.Cond.soleField "SafeCode$Analysis" "now") ∈ lw_all := lw_g (lw_at lw_m2 235 rfl) rfl
theorem q722 : (Jvm.Cond.laysFinal "SafeCode$Analysis" "SafeCode$Analysis" "other" "LSafeCode$Slots;") ∈ lw_all := lw_g (lw_at lw_m2 236 rfl) rfl
theorem q723 : (Jvm.Cond.soleField "SafeCode$Analysis" "other") ∈ lw_all := lw_g (lw_at lw_m2 237 rfl) rfl
theorem q724 : (Jvm.Cond.lays "SafeCode$Analysis" "SafeCode$Analysis" "top" "I") ∈ lw_all := lw_g (lw_at lw_m2 238 rfl) rfl
theorem q725 : (Jvm.Cond.soleField "SafeCode$Analysis" "top") ∈ lw_all := lw_g (lw_at lw_m2 239 rfl) rfl
theorem q726 : (Jvm.Cond.lays "SafeCode$Analysis" "SafeCode$Analysis" "raised" "J") ∈ lw_all := lw_g (lw_at lw_m3 0 rfl) rfl
theorem q727 : (Jvm.Cond.soleField "SafeCode$Analysis" "raised") ∈ lw_all := lw_g (lw_at lw_m3 1 rfl) rfl
theorem q728 : (Jvm.Cond.lays "SafeCode$Analysis" "SafeCode$Analysis" "told" "I") ∈ lw_all := lw_g (lw_at lw_m3 2 rfl) rfl
theorem q729 : (Jvm.Cond.soleField "SafeCode$Analysis" "told") ∈ lw_all := lw_g (lw_at lw_m3 3 rfl) rfl
theorem q730 : (Jvm.Cond.superclass "SafeCode$Analysis" "java/lang/Object") ∈ lw_all := lw_g (lw_at lw_m3 4 rfl) rfl
theorem q810 : (Jvm.Cond.fieldLink "SafeCode$Analysis" (132 : Nat) "SafeCode$Program" "classes" "I") ∈ lw_all := lw_g (lw_at lw_m3 84 rfl) rfl
theorem q817 : (Jvm.Cond.fieldLink "SafeCode$Analysis" (417 : Nat) "SafeCode$Program" "fields" "I") ∈ lw_all := lw_g (lw_at lw_m3 91 rfl) rfl
theorem q820 : (Jvm.Cond.fieldLink "SafeCode$Analysis" (419 : Nat) "SafeCode$Program" "fieldClass" "[I") ∈ lw_all := lw_g (lw_at lw_m3 94 rfl) rfl
theorem q824 : (Jvm.Cond.fieldLink "SafeCode$Analysis" (425 : Nat) "SafeCode$Program" "fieldType" "[I") ∈ lw_all := lw_g (lw_at lw_m3 98 rfl) rfl
theorem q828 : (Jvm.Cond.fieldLink "SafeCode$Analysis" (404 : Nat) "SafeCode$Program" "fieldPlace" "[I") ∈ lw_all := lw_g (lw_at lw_m3 102 rfl) rfl
theorem q844 : (Jvm.Cond.fieldLink "SafeCode$Analysis" (166 : Nat) "SafeCode$Program" "parameters" "[I") ∈ lw_all := lw_g (lw_at lw_m3 118 rfl) rfl
theorem q853 : (Jvm.Cond.fieldLink "SafeCode$Analysis" (457 : Nat) "SafeCode$Program" "result" "[I") ∈ lw_all := lw_g (lw_at lw_m3 127 rfl) rfl
theorem q859 : (Jvm.Cond.fieldLink "SafeCode$Analysis" (172 : Nat) "SafeCode$Program" "first" "[I") ∈ lw_all := lw_g (lw_at lw_m3 133 rfl) rfl
theorem q865 : (Jvm.Cond.fieldLink "SafeCode$Analysis" (117 : Nat) "SafeCode$Program" "size" "I") ∈ lw_all := lw_g (lw_at lw_m3 139 rfl) rfl
theorem q869 : (Jvm.Cond.fieldLink "SafeCode$Analysis" (120 : Nat) "SafeCode$Program" "operation" "[I") ∈ lw_all := lw_g (lw_at lw_m3 143 rfl) rfl
theorem q876 : (Jvm.Cond.fieldLink "SafeCode$Analysis" (253 : Nat) "SafeCode$Program" "operand" "[I") ∈ lw_all := lw_g (lw_at lw_m3 150 rfl) rfl
theorem q879 : (Jvm.Cond.fieldLink "SafeCode$Analysis" (123 : Nat) "SafeCode$Program" "number" "[I") ∈ lw_all := lw_g (lw_at lw_m3 153 rfl) rfl
theorem q888 : (Jvm.Cond.fieldLink "SafeCode$Analysis" (246 : Nat) "SafeCode$Program" "body" "[I") ∈ lw_all := lw_g (lw_at lw_m3 162 rfl) rfl
theorem q893 : (Jvm.Cond.fieldLink "SafeCode$Analysis" (204 : Nat) "SafeCode$Program" "height" "[I") ∈ lw_all := lw_g (lw_at lw_m3 167 rfl) rfl
theorem q895 : (Jvm.Cond.fieldLink "SafeCode$Analysis" (139 : Nat) "SafeCode$Program" "sites" "I") ∈ lw_all := lw_g (lw_at lw_m3 169 rfl) rfl
theorem q899 : (Jvm.Cond.fieldLink "SafeCode$Analysis" (142 : Nat) "SafeCode$Program" "siteType" "[I") ∈ lw_all := lw_g (lw_at lw_m3 173 rfl) rfl
theorem q906 : (Jvm.Cond.fieldLink "SafeCode$Analysis" (229 : Nat) "SafeCode$Program" "catches" "I") ∈ lw_all := lw_g (lw_at lw_m3 180 rfl) rfl
theorem q911 : (Jvm.Cond.fieldLink "SafeCode$Analysis" (232 : Nat) "SafeCode$Program" "catchFrom" "[I") ∈ lw_all := lw_g (lw_at lw_m3 185 rfl) rfl
theorem q916 : (Jvm.Cond.fieldLink "SafeCode$Analysis" (235 : Nat) "SafeCode$Program" "catchTo" "[I") ∈ lw_all := lw_g (lw_at lw_m3 190 rfl) rfl
theorem q921 : (Jvm.Cond.fieldLink "SafeCode$Analysis" (243 : Nat) "SafeCode$Program" "catchAt" "[I") ∈ lw_all := lw_g (lw_at lw_m3 195 rfl) rfl
theorem q926 : (Jvm.Cond.fieldLink "SafeCode$Analysis" (238 : Nat) "SafeCode$Program" "catchClass" "[I") ∈ lw_all := lw_g (lw_at lw_m3 200 rfl) rfl
theorem q928 : (Jvm.Cond.fieldLink "SafeCode$Analysis" (98 : Nat) "SafeCode$Program" "main" "I") ∈ lw_all := lw_g (lw_at lw_m3 202 rfl) rfl
theorem q1535 : (Jvm.Cond.instanceMethod ({ cls := "SafeCode$Analysis", name := "seek", desc := "(LSafeCode$Program;)V" } : Jvm.MethodName)) ∈ lw_all := lw_g (lw_at lw_m6 89 rfl) rfl
theorem q1536 : (Jvm.Cond.selects "SafeCode$Analysis" ({ cls := "SafeCode$Analysis", name := "seek", desc := "(LSafeCode$Program;)V" } : Jvm.MethodName) ({ cls := "SafeCode$Analysis", name := "seek", desc := "(LSafeCode$Program;)V" } : Jvm.MethodName)) ∈ lw_all := lw_g (lw_at lw_m6 90 rfl) rfl
theorem q1537 : (Jvm.Cond.code ({ cls := "SafeCode$Analysis", name := "seek", desc := "(LSafeCode$Program;)V" } : Jvm.MethodName) prog_2_method_2_code (3 : Nat) (Option.none : Option Jvm.ClassFile.FieldType)) ∈ lw_all := lw_g (lw_at lw_m6 91 rfl) rfl
theorem q1538 : (Jvm.Cond.methodLink "SafeCode$Analysis" (95 : Nat) ({ cls := "SafeCode$Analysis", name := "begin", desc := "()V" } : Jvm.MethodName)) ∈ lw_all := lw_g (lw_at lw_m6 92 rfl) rfl
theorem q1539 : (Jvm.Cond.privateMethod ({ cls := "SafeCode$Analysis", name := "begin", desc := "()V" } : Jvm.MethodName)) ∈ lw_tbl := lw_at lw_m6 93 rfl
theorem q1540 : (Jvm.Cond.instanceMethod ({ cls := "SafeCode$Analysis", name := "begin", desc := "()V" } : Jvm.MethodName)) ∈ lw_all := lw_g (lw_at lw_m6 94 rfl) rfl
theorem q1541 : (Jvm.Cond.code ({ cls := "SafeCode$Analysis", name := "begin", desc := "()V" } : Jvm.MethodName) prog_2_method_3_code (2 : Nat) (Option.none : Option Jvm.ClassFile.FieldType)) ∈ lw_all := lw_g (lw_at lw_m6 95 rfl) rfl
theorem q1542 : (Jvm.Cond.methodLink "SafeCode$Analysis" (116 : Nat) ({ cls := "SafeCode$Thresholds", name := "begin", desc := "()V" } : Jvm.MethodName)) ∈ lw_all := lw_g (lw_at lw_m6 96 rfl) rfl
theorem q1555 : (Jvm.Cond.methodLink "SafeCode$Analysis" (126 : Nat) ({ cls := "SafeCode$Thresholds", name := "around", desc := "(I)V" } : Jvm.MethodName)) ∈ lw_all := lw_g (lw_at lw_m6 109 rfl) rfl
theorem q1559 : (Jvm.Cond.methodLink "SafeCode$Analysis" (129 : Nat) ({ cls := "SafeCode$Unknowns", name := "clear", desc := "()V" } : Jvm.MethodName)) ∈ lw_all := lw_g (lw_at lw_m6 113 rfl) rfl
theorem q1563 : (Jvm.Cond.methodLink "SafeCode$Analysis" (135 : Nat) ({ cls := "SafeCode$Analysis", name := "sitesOf", desc := "(I)J" } : Jvm.MethodName)) ∈ lw_all := lw_g (lw_at lw_m6 117 rfl) rfl
theorem q1564 : (Jvm.Cond.privateMethod ({ cls := "SafeCode$Analysis", name := "sitesOf", desc := "(I)J" } : Jvm.MethodName)) ∈ lw_tbl := lw_at lw_m6 118 rfl
theorem q1565 : (Jvm.Cond.instanceMethod ({ cls := "SafeCode$Analysis", name := "sitesOf", desc := "(I)J" } : Jvm.MethodName)) ∈ lw_all := lw_g (lw_at lw_m6 119 rfl) rfl
theorem q1566 : (Jvm.Cond.code ({ cls := "SafeCode$Analysis", name := "sitesOf", desc := "(I)J" } : Jvm.MethodName) prog_2_method_4_code (5 : Nat) (Option.some Jvm.ClassFile.FieldType.long)) ∈ lw_all := lw_g (lw_at lw_m6 120 rfl) rfl
theorem q1567 : (Jvm.Cond.methodLink "SafeCode$Analysis" (145 : Nat) ({ cls := "SafeCode$Program", name := "isBelow", desc := "(II)Z" } : Jvm.MethodName)) ∈ lw_all := lw_g (lw_at lw_m6 121 rfl) rfl
theorem q1568 : (Jvm.Cond.methodLink "SafeCode$Analysis" (104 : Nat) ({ cls := "SafeCode$Analysis", name := "enter", desc := "(I)V" } : Jvm.MethodName)) ∈ lw_all := lw_g (lw_at lw_m6 122 rfl) rfl
theorem q1569 : (Jvm.Cond.privateMethod ({ cls := "SafeCode$Analysis", name := "enter", desc := "(I)V" } : Jvm.MethodName)) ∈ lw_tbl := lw_at lw_m6 123 rfl
theorem q1570 : (Jvm.Cond.instanceMethod ({ cls := "SafeCode$Analysis", name := "enter", desc := "(I)V" } : Jvm.MethodName)) ∈ lw_all := lw_g (lw_at lw_m6 124 rfl) rfl
theorem q1571 : (Jvm.Cond.code ({ cls := "SafeCode$Analysis", name := "enter", desc := "(I)V" } : Jvm.MethodName) prog_2_method_8_code (3 : Nat) (Option.none : Option Jvm.ClassFile.FieldType)) ∈ lw_all := lw_g (lw_at lw_m6 125 rfl) rfl
theorem q1572 : (Jvm.Cond.methodLink "SafeCode$Analysis" (160 : Nat) ({ cls := "SafeCode$Slots", name := "unset", desc := "(I)V" } : Jvm.MethodName)) ∈ lw_all := lw_g (lw_at lw_m6 126 rfl) rfl
theorem q1578 : (Jvm.Cond.methodLink "SafeCode$Analysis" (163 : Nat) ({ cls := "SafeCode$Slots", name := "plain", desc := "(I)V" } : Jvm.MethodName)) ∈ lw_all := lw_g (lw_at lw_m6 132 rfl) rfl
theorem q1582 : (Jvm.Cond.methodLink "SafeCode$Analysis" (168 : Nat) ({ cls := "SafeCode$Slots", name := "putValue", desc := "(ILSafeCode$Values;I)V" } : Jvm.MethodName)) ∈ lw_all := lw_g (lw_at lw_m6 136 rfl) rfl
theorem q1588 : (Jvm.Cond.methodLink "SafeCode$Analysis" (174 : Nat) ({ cls := "SafeCode$Analysis", name := "flow", desc := "(LSafeCode$Slots;II)V" } : Jvm.MethodName)) ∈ lw_all := lw_g (lw_at lw_m6 142 rfl) rfl
theorem q1589 : (Jvm.Cond.privateMethod ({ cls := "SafeCode$Analysis", name := "flow", desc := "(LSafeCode$Slots;II)V" } : Jvm.MethodName)) ∈ lw_tbl := lw_at lw_m6 143 rfl
theorem q1590 : (Jvm.Cond.instanceMethod ({ cls := "SafeCode$Analysis", name := "flow", desc := "(LSafeCode$Slots;II)V" } : Jvm.MethodName)) ∈ lw_all := lw_g (lw_at lw_m6 144 rfl) rfl
theorem q1591 : (Jvm.Cond.code ({ cls := "SafeCode$Analysis", name := "flow", desc := "(LSafeCode$Slots;II)V" } : Jvm.MethodName) prog_2_method_7_code (8 : Nat) (Option.none : Option Jvm.ClassFile.FieldType)) ∈ lw_all := lw_g (lw_at lw_m6 145 rfl) rfl
theorem q1592 : (Jvm.Cond.methodLink "SafeCode$Analysis" (152 : Nat) ({ cls := "SafeCode$Slots", name := "put", desc := "(ILSafeCode$Slots;I)V" } : Jvm.MethodName)) ∈ lw_all := lw_g (lw_at lw_m6 146 rfl) rfl
theorem q1597 : (Jvm.Cond.methodLink "SafeCode$Analysis" (156 : Nat) ({ cls := "SafeCode$Slots", name := "join", desc := "(ILSafeCode$Slots;I)Z" } : Jvm.MethodName)) ∈ lw_all := lw_g (lw_at lw_m6 151 rfl) rfl
theorem q1613 : (Jvm.Cond.methodLink "SafeCode$Analysis" (149 : Nat) ({ cls := "SafeCode$Analysis", name := "wake", desc := "(I)V" } : Jvm.MethodName)) ∈ lw_all := lw_g (lw_at lw_m6 167 rfl) rfl
theorem q1614 : (Jvm.Cond.privateMethod ({ cls := "SafeCode$Analysis", name := "wake", desc := "(I)V" } : Jvm.MethodName)) ∈ lw_tbl := lw_at lw_m6 168 rfl
theorem q1615 : (Jvm.Cond.instanceMethod ({ cls := "SafeCode$Analysis", name := "wake", desc := "(I)V" } : Jvm.MethodName)) ∈ lw_all := lw_g (lw_at lw_m6 169 rfl) rfl
theorem q1616 : (Jvm.Cond.code ({ cls := "SafeCode$Analysis", name := "wake", desc := "(I)V" } : Jvm.MethodName) prog_2_method_5_code (2 : Nat) (Option.none : Option Jvm.ClassFile.FieldType)) ∈ lw_all := lw_g (lw_at lw_m6 170 rfl) rfl
theorem q1617 : (Jvm.Cond.methodLink "SafeCode$Analysis" (113 : Nat) ({ cls := "SafeCode$Analysis", name := "act", desc := "(I)V" } : Jvm.MethodName)) ∈ lw_all := lw_g (lw_at lw_m6 171 rfl) rfl
theorem q1618 : (Jvm.Cond.privateMethod ({ cls := "SafeCode$Analysis", name := "act", desc := "(I)V" } : Jvm.MethodName)) ∈ lw_tbl := lw_at lw_m6 172 rfl
theorem q1619 : (Jvm.Cond.instanceMethod ({ cls := "SafeCode$Analysis", name := "act", desc := "(I)V" } : Jvm.MethodName)) ∈ lw_all := lw_g (lw_at lw_m6 173 rfl) rfl
theorem q1620 : (Jvm.Cond.code ({ cls := "SafeCode$Analysis", name := "act", desc := "(I)V" } : Jvm.MethodName) prog_2_method_16_code (4 : Nat) (Option.none : Option Jvm.ClassFile.FieldType)) ∈ lw_all := lw_g (lw_at lw_m6 174 rfl) rfl
theorem q1621 : (Jvm.Cond.methodLink "SafeCode$Analysis" (207 : Nat) ({ cls := "SafeCode$Analysis", name := "branch", desc := "(II)Z" } : Jvm.MethodName)) ∈ lw_all := lw_g (lw_at lw_m6 175 rfl) rfl
theorem q1622 : (Jvm.Cond.privateMethod ({ cls := "SafeCode$Analysis", name := "branch", desc := "(II)Z" } : Jvm.MethodName)) ∈ lw_tbl := lw_at lw_m6 176 rfl
theorem q1623 : (Jvm.Cond.instanceMethod ({ cls := "SafeCode$Analysis", name := "branch", desc := "(II)Z" } : Jvm.MethodName)) ∈ lw_all := lw_g (lw_at lw_m6 177 rfl) rfl
theorem q1624 : (Jvm.Cond.code ({ cls := "SafeCode$Analysis", name := "branch", desc := "(II)Z" } : Jvm.MethodName) prog_2_method_24_code (8 : Nat) (Option.some Jvm.ClassFile.FieldType.boolean)) ∈ lw_all := lw_g (lw_at lw_m6 178 rfl) rfl
theorem q1625 : (Jvm.Cond.methodLink "SafeCode$Analysis" (268 : Nat) ({ cls := "SafeCode$Analysis", name := "pop", desc := "()I" } : Jvm.MethodName)) ∈ lw_all := lw_g (lw_at lw_m6 179 rfl) rfl
theorem q1626 : (Jvm.Cond.privateMethod ({ cls := "SafeCode$Analysis", name := "pop", desc := "()I" } : Jvm.MethodName)) ∈ lw_tbl := lw_at lw_m6 180 rfl
theorem q1627 : (Jvm.Cond.instanceMethod ({ cls := "SafeCode$Analysis", name := "pop", desc := "()I" } : Jvm.MethodName)) ∈ lw_all := lw_g (lw_at lw_m6 181 rfl) rfl
theorem q1628 : (Jvm.Cond.code ({ cls := "SafeCode$Analysis", name := "pop", desc := "()I" } : Jvm.MethodName) prog_2_method_12_code (1 : Nat) (Option.some Jvm.ClassFile.FieldType.int)) ∈ lw_all := lw_g (lw_at lw_m6 182 rfl) rfl
theorem q1629 : (Jvm.Cond.methodLink "SafeCode$Analysis" (318 : Nat) ({ cls := "SafeCode$Analysis", name := "way", desc := "(LSafeCode$Slots;IIIZ)Z" } : Jvm.MethodName)) ∈ lw_all := lw_g (lw_at lw_m6 183 rfl) rfl
theorem q1630 : (Jvm.Cond.privateMethod ({ cls := "SafeCode$Analysis", name := "way", desc := "(LSafeCode$Slots;IIIZ)Z" } : Jvm.MethodName)) ∈ lw_tbl := lw_at lw_m6 184 rfl
theorem q1631 : (Jvm.Cond.instanceMethod ({ cls := "SafeCode$Analysis", name := "way", desc := "(LSafeCode$Slots;IIIZ)Z" } : Jvm.MethodName)) ∈ lw_all := lw_g (lw_at lw_m6 185 rfl) rfl
theorem q1632 : (Jvm.Cond.code ({ cls := "SafeCode$Analysis", name := "way", desc := "(LSafeCode$Slots;IIIZ)Z" } : Jvm.MethodName) prog_2_method_25_code (8 : Nat) (Option.some Jvm.ClassFile.FieldType.boolean)) ∈ lw_all := lw_g (lw_at lw_m6 186 rfl) rfl
theorem q1633 : (Jvm.Cond.methodLink "SafeCode$Analysis" (322 : Nat) ({ cls := "SafeCode$Analysis", name := "nullWay", desc := "(LSafeCode$Slots;IZ)Z" } : Jvm.MethodName)) ∈ lw_all := lw_g (lw_at lw_m6 187 rfl) rfl
theorem q1634 : (Jvm.Cond.privateMethod ({ cls := "SafeCode$Analysis", name := "nullWay", desc := "(LSafeCode$Slots;IZ)Z" } : Jvm.MethodName)) ∈ lw_tbl := lw_at lw_m6 188 rfl
theorem q1635 : (Jvm.Cond.instanceMethod ({ cls := "SafeCode$Analysis", name := "nullWay", desc := "(LSafeCode$Slots;IZ)Z" } : Jvm.MethodName)) ∈ lw_all := lw_g (lw_at lw_m6 189 rfl) rfl
theorem q1636 : (Jvm.Cond.code ({ cls := "SafeCode$Analysis", name := "nullWay", desc := "(LSafeCode$Slots;IZ)Z" } : Jvm.MethodName) prog_2_method_26_code (6 : Nat) (Option.some Jvm.ClassFile.FieldType.boolean)) ∈ lw_all := lw_g (lw_at lw_m6 190 rfl) rfl
theorem q1637 : (Jvm.Cond.constantLong "SafeCode$Analysis" (202 : Nat) (4611686018427387904 : Int64)) ∈ lw_all := lw_g (lw_at lw_m6 191 rfl) rfl
theorem q1638 : (Jvm.Cond.methodLink "SafeCode$Analysis" (306 : Nat) ({ cls := "SafeCode$Analysis", name := "objects", desc := "(J)J" } : Jvm.MethodName)) ∈ lw_all := lw_g (lw_at lw_m6 192 rfl) rfl
theorem q1639 : (Jvm.Cond.static ({ cls := "SafeCode$Analysis", name := "objects", desc := "(J)J" } : Jvm.MethodName)) ∈ lw_all := lw_g (lw_at lw_m6 193 rfl) rfl
theorem q1640 : (Jvm.Cond.code ({ cls := "SafeCode$Analysis", name := "objects", desc := "(J)J" } : Jvm.MethodName) prog_2_method_14_code (2 : Nat) (Option.some Jvm.ClassFile.FieldType.long)) ∈ lw_all := lw_g (lw_at lw_m6 194 rfl) rfl
theorem q1641 : (Jvm.Cond.constantLong "SafeCode$Analysis" (200 : Nat) (-4611686018427387905 : Int64)) ∈ lw_all := lw_g (lw_at lw_m6 195 rfl) rfl
theorem q1642 : (Jvm.Cond.methodLink "SafeCode$Analysis" (342 : Nat) ({ cls := "SafeCode$Analysis", name := "keep", desc := "(LSafeCode$Slots;IJ)Z" } : Jvm.MethodName)) ∈ lw_all := lw_g (lw_at lw_m6 196 rfl) rfl
theorem q1643 : (Jvm.Cond.static ({ cls := "SafeCode$Analysis", name := "keep", desc := "(LSafeCode$Slots;IJ)Z" } : Jvm.MethodName)) ∈ lw_all := lw_g (lw_at lw_m6 197 rfl) rfl
theorem q1644 : (Jvm.Cond.code ({ cls := "SafeCode$Analysis", name := "keep", desc := "(LSafeCode$Slots;IJ)Z" } : Jvm.MethodName) prog_2_method_28_code (4 : Nat) (Option.some Jvm.ClassFile.FieldType.boolean)) ∈ lw_all := lw_g (lw_at lw_m6 198 rfl) rfl
theorem q1645 : (Jvm.Cond.methodLink "SafeCode$Analysis" (326 : Nat) ({ cls := "SafeCode$Analysis", name := "sameWay", desc := "(LSafeCode$Slots;II)Z" } : Jvm.MethodName)) ∈ lw_all := lw_g (lw_at lw_m6 199 rfl) rfl
theorem q1646 : (Jvm.Cond.privateMethod ({ cls := "SafeCode$Analysis", name := "sameWay", desc := "(LSafeCode$Slots;II)Z" } : Jvm.MethodName)) ∈ lw_tbl := lw_at lw_m6 200 rfl
theorem q1647 : (Jvm.Cond.instanceMethod ({ cls := "SafeCode$Analysis", name := "sameWay", desc := "(LSafeCode$Slots;II)Z" } : Jvm.MethodName)) ∈ lw_all := lw_g (lw_at lw_m6 201 rfl) rfl
theorem q1648 : (Jvm.Cond.code ({ cls := "SafeCode$Analysis", name := "sameWay", desc := "(LSafeCode$Slots;II)Z" } : Jvm.MethodName) prog_2_method_27_code (6 : Nat) (Option.some Jvm.ClassFile.FieldType.boolean)) ∈ lw_all := lw_g (lw_at lw_m6 202 rfl) rfl
theorem q1649 : (Jvm.Cond.methodLink "SafeCode$Analysis" (330 : Nat) ({ cls := "SafeCode$Analysis", name := "contrary", desc := "(I)I" } : Jvm.MethodName)) ∈ lw_all := lw_g (lw_at lw_m6 203 rfl) rfl
theorem q1650 : (Jvm.Cond.static ({ cls := "SafeCode$Analysis", name := "contrary", desc := "(I)I" } : Jvm.MethodName)) ∈ lw_all := lw_g (lw_at lw_m6 204 rfl) rfl
theorem q1651 : (Jvm.Cond.code ({ cls := "SafeCode$Analysis", name := "contrary", desc := "(I)I" } : Jvm.MethodName) prog_2_method_23_code (1 : Nat) (Option.some Jvm.ClassFile.FieldType.int)) ∈ lw_all := lw_g (lw_at lw_m6 205 rfl) rfl
theorem q1652 : (Jvm.Cond.methodLink "SafeCode$Analysis" (334 : Nat) ({ cls := "SafeCode$Analysis", name := "relate", desc := "(LSafeCode$Slots;III)Z" } : Jvm.MethodName)) ∈ lw_all := lw_g (lw_at lw_m6 206 rfl) rfl
theorem q1653 : (Jvm.Cond.privateMethod ({ cls := "SafeCode$Analysis", name := "relate", desc := "(LSafeCode$Slots;III)Z" } : Jvm.MethodName)) ∈ lw_tbl := lw_at lw_m6 207 rfl
theorem q1654 : (Jvm.Cond.instanceMethod ({ cls := "SafeCode$Analysis", name := "relate", desc := "(LSafeCode$Slots;III)Z" } : Jvm.MethodName)) ∈ lw_all := lw_g (lw_at lw_m6 208 rfl) rfl
theorem q1655 : (Jvm.Cond.code ({ cls := "SafeCode$Analysis", name := "relate", desc := "(LSafeCode$Slots;III)Z" } : Jvm.MethodName) prog_2_method_31_code (16 : Nat) (Option.some Jvm.ClassFile.FieldType.boolean)) ∈ lw_all := lw_g (lw_at lw_m6 209 rfl) rfl
theorem q1656 : (Jvm.Cond.methodLink "SafeCode$Analysis" (362 : Nat) ({ cls := "SafeCode$Analysis", name := "cut", desc := "(LSafeCode$Slots;IJJ)Z" } : Jvm.MethodName)) ∈ lw_all := lw_g (lw_at lw_m6 210 rfl) rfl
theorem q1657 : (Jvm.Cond.privateMethod ({ cls := "SafeCode$Analysis", name := "cut", desc := "(LSafeCode$Slots;IJJ)Z" } : Jvm.MethodName)) ∈ lw_tbl := lw_at lw_m6 211 rfl
theorem q1658 : (Jvm.Cond.instanceMethod ({ cls := "SafeCode$Analysis", name := "cut", desc := "(LSafeCode$Slots;IJJ)Z" } : Jvm.MethodName)) ∈ lw_all := lw_g (lw_at lw_m6 212 rfl) rfl
theorem q1659 : (Jvm.Cond.code ({ cls := "SafeCode$Analysis", name := "cut", desc := "(LSafeCode$Slots;IJJ)Z" } : Jvm.MethodName) prog_2_method_29_code (11 : Nat) (Option.some Jvm.ClassFile.FieldType.boolean)) ∈ lw_all := lw_g (lw_at lw_m6 213 rfl) rfl
theorem q1660 : (Jvm.Cond.methodLink "SafeCode$Analysis" (346 : Nat) ({ cls := "java/lang/Math", name := "max", desc := "(JJ)J" } : Jvm.MethodName)) ∈ lw_all := lw_g (lw_at lw_m6 214 rfl) rfl
theorem q1663 : (Jvm.Cond.methodLink "SafeCode$Analysis" (352 : Nat) ({ cls := "java/lang/Math", name := "min", desc := "(JJ)J" } : Jvm.MethodName)) ∈ lw_all := lw_g (lw_at lw_m6 217 rfl) rfl
theorem q1666 : (Jvm.Cond.methodLink "SafeCode$Analysis" (355 : Nat) ({ cls := "SafeCode$Thresholds", name := "down", desc := "(J)I" } : Jvm.MethodName)) ∈ lw_all := lw_g (lw_at lw_m6 220 rfl) rfl
theorem q1670 : (Jvm.Cond.methodLink "SafeCode$Analysis" (359 : Nat) ({ cls := "SafeCode$Thresholds", name := "up", desc := "(J)I" } : Jvm.MethodName)) ∈ lw_all := lw_g (lw_at lw_m6 224 rfl) rfl
theorem q1674 : (Jvm.Cond.methodLink "SafeCode$Analysis" (374 : Nat) ({ cls := "SafeCode$Analysis", name := "bit", desc := "(I)I" } : Jvm.MethodName)) ∈ lw_all := lw_g (lw_at lw_m6 228 rfl) rfl
theorem q1675 : (Jvm.Cond.static ({ cls := "SafeCode$Analysis", name := "bit", desc := "(I)I" } : Jvm.MethodName)) ∈ lw_all := lw_g (lw_at lw_m6 229 rfl) rfl
theorem q1676 : (Jvm.Cond.code ({ cls := "SafeCode$Analysis", name := "bit", desc := "(I)I" } : Jvm.MethodName) prog_2_method_30_code (1 : Nat) (Option.some Jvm.ClassFile.FieldType.int)) ∈ lw_all := lw_g (lw_at lw_m6 230 rfl) rfl
theorem q1677 : (Jvm.Cond.methodLink "SafeCode$Analysis" (338 : Nat) ({ cls := "SafeCode$Analysis", name := "learn", desc := "(LSafeCode$Slots;I)Z" } : Jvm.MethodName)) ∈ lw_all := lw_g (lw_at lw_m6 231 rfl) rfl
theorem q1678 : (Jvm.Cond.privateMethod ({ cls := "SafeCode$Analysis", name := "learn", desc := "(LSafeCode$Slots;I)Z" } : Jvm.MethodName)) ∈ lw_tbl := lw_at lw_m6 232 rfl
theorem q1679 : (Jvm.Cond.instanceMethod ({ cls := "SafeCode$Analysis", name := "learn", desc := "(LSafeCode$Slots;I)Z" } : Jvm.MethodName)) ∈ lw_all := lw_g (lw_at lw_m6 233 rfl) rfl
theorem q1680 : (Jvm.Cond.code ({ cls := "SafeCode$Analysis", name := "learn", desc := "(LSafeCode$Slots;I)Z" } : Jvm.MethodName) prog_2_method_32_code (6 : Nat) (Option.some Jvm.ClassFile.FieldType.boolean)) ∈ lw_all := lw_g (lw_at lw_m6 234 rfl) rfl
theorem q1681 : (Jvm.Cond.methodLink "SafeCode$Analysis" (377 : Nat) ({ cls := "java/lang/Math", name := "max", desc := "(II)I" } : Jvm.MethodName)) ∈ lw_all := lw_g (lw_at lw_m6 235 rfl) rfl
theorem q1682 : (Jvm.Cond.methodLink "SafeCode$Analysis" (380 : Nat) ({ cls := "java/lang/Math", name := "min", desc := "(II)I" } : Jvm.MethodName)) ∈ lw_all := lw_g (lw_at lw_m6 236 rfl) rfl
theorem q1683 : (Jvm.Cond.methodLink "SafeCode$Analysis" (210 : Nat) ({ cls := "SafeCode$Analysis", name := "compute", desc := "(I)Z" } : Jvm.MethodName)) ∈ lw_all := lw_g (lw_at lw_m6 237 rfl) rfl
theorem q1684 : (Jvm.Cond.privateMethod ({ cls := "SafeCode$Analysis", name := "compute", desc := "(I)Z" } : Jvm.MethodName)) ∈ lw_tbl := lw_at lw_m6 238 rfl
theorem q1685 : (Jvm.Cond.instanceMethod ({ cls := "SafeCode$Analysis", name := "compute", desc := "(I)Z" } : Jvm.MethodName)) ∈ lw_all := lw_g (lw_at lw_m6 239 rfl) rfl
theorem q1686 : (Jvm.Cond.code ({ cls := "SafeCode$Analysis", name := "compute", desc := "(I)Z" } : Jvm.MethodName) prog_2_method_22_code (4 : Nat) (Option.some Jvm.ClassFile.FieldType.boolean)) ∈ lw_all := lw_g (lw_at lw_m7 0 rfl) rfl
theorem q1687 : (Jvm.Cond.methodLink "SafeCode$Analysis" (314 : Nat) ({ cls := "SafeCode$Arithmetic", name := "negate", desc := "(JJ)V" } : Jvm.MethodName)) ∈ lw_all := lw_g (lw_at lw_m7 1 rfl) rfl
theorem q1701 : (Jvm.Cond.methodLink "SafeCode$Analysis" (256 : Nat) ({ cls := "SafeCode$Analysis", name := "pushRange", desc := "(II)V" } : Jvm.MethodName)) ∈ lw_all := lw_g (lw_at lw_m7 15 rfl) rfl
theorem q1702 : (Jvm.Cond.privateMethod ({ cls := "SafeCode$Analysis", name := "pushRange", desc := "(II)V" } : Jvm.MethodName)) ∈ lw_tbl := lw_at lw_m7 16 rfl
theorem q1703 : (Jvm.Cond.instanceMethod ({ cls := "SafeCode$Analysis", name := "pushRange", desc := "(II)V" } : Jvm.MethodName)) ∈ lw_all := lw_g (lw_at lw_m7 17 rfl) rfl
theorem q1704 : (Jvm.Cond.code ({ cls := "SafeCode$Analysis", name := "pushRange", desc := "(II)V" } : Jvm.MethodName) prog_2_method_10_code (3 : Nat) (Option.none : Option Jvm.ClassFile.FieldType)) ∈ lw_all := lw_g (lw_at lw_m7 18 rfl) rfl
theorem q1705 : (Jvm.Cond.methodLink "SafeCode$Analysis" (181 : Nat) ({ cls := "SafeCode$Analysis", name := "push", desc := "()I" } : Jvm.MethodName)) ∈ lw_all := lw_g (lw_at lw_m7 19 rfl) rfl
theorem q1706 : (Jvm.Cond.privateMethod ({ cls := "SafeCode$Analysis", name := "push", desc := "()I" } : Jvm.MethodName)) ∈ lw_tbl := lw_at lw_m7 20 rfl
theorem q1707 : (Jvm.Cond.instanceMethod ({ cls := "SafeCode$Analysis", name := "push", desc := "()I" } : Jvm.MethodName)) ∈ lw_all := lw_g (lw_at lw_m7 21 rfl) rfl
theorem q1708 : (Jvm.Cond.code ({ cls := "SafeCode$Analysis", name := "push", desc := "()I" } : Jvm.MethodName) prog_2_method_9_code (2 : Nat) (Option.some Jvm.ClassFile.FieldType.int)) ∈ lw_all := lw_g (lw_at lw_m7 22 rfl) rfl
theorem q1709 : (Jvm.Cond.methodLink "SafeCode$Analysis" (185 : Nat) ({ cls := "SafeCode$Slots", name := "putRange", desc := "(III)V" } : Jvm.MethodName)) ∈ lw_all := lw_g (lw_at lw_m7 23 rfl) rfl
theorem q1715 : (Jvm.Cond.methodLink "SafeCode$Analysis" (303 : Nat) ({ cls := "SafeCode$Analysis", name := "raise", desc := "(I)V" } : Jvm.MethodName)) ∈ lw_all := lw_g (lw_at lw_m7 29 rfl) rfl
theorem q1716 : (Jvm.Cond.privateMethod ({ cls := "SafeCode$Analysis", name := "raise", desc := "(I)V" } : Jvm.MethodName)) ∈ lw_tbl := lw_at lw_m7 30 rfl
theorem q1717 : (Jvm.Cond.instanceMethod ({ cls := "SafeCode$Analysis", name := "raise", desc := "(I)V" } : Jvm.MethodName)) ∈ lw_all := lw_g (lw_at lw_m7 31 rfl) rfl
theorem q1718 : (Jvm.Cond.code ({ cls := "SafeCode$Analysis", name := "raise", desc := "(I)V" } : Jvm.MethodName) prog_2_method_13_code (2 : Nat) (Option.none : Option Jvm.ClassFile.FieldType)) ∈ lw_all := lw_g (lw_at lw_m7 32 rfl) rfl
theorem q1719 : (Jvm.Cond.methodLink "SafeCode$Analysis" (289 : Nat) ({ cls := "SafeCode$Arithmetic", name := "work", desc := "(IJJJJ)Z" } : Jvm.MethodName)) ∈ lw_all := lw_g (lw_at lw_m7 33 rfl) rfl
theorem q1752 : (Jvm.Cond.methodLink "SafeCode$Analysis" (214 : Nat) ({ cls := "SafeCode$Analysis", name := "heap", desc := "(II)Z" } : Jvm.MethodName)) ∈ lw_all := lw_g (lw_at lw_m7 66 rfl) rfl
theorem q1753 : (Jvm.Cond.privateMethod ({ cls := "SafeCode$Analysis", name := "heap", desc := "(II)Z" } : Jvm.MethodName)) ∈ lw_tbl := lw_at lw_m7 67 rfl
theorem q1754 : (Jvm.Cond.instanceMethod ({ cls := "SafeCode$Analysis", name := "heap", desc := "(II)Z" } : Jvm.MethodName)) ∈ lw_all := lw_g (lw_at lw_m7 68 rfl) rfl
theorem q1755 : (Jvm.Cond.code ({ cls := "SafeCode$Analysis", name := "heap", desc := "(II)Z" } : Jvm.MethodName) prog_2_method_34_code (7 : Nat) (Option.some Jvm.ClassFile.FieldType.boolean)) ∈ lw_all := lw_g (lw_at lw_m7 69 rfl) rfl
theorem q1756 : (Jvm.Cond.methodLink "SafeCode$Analysis" (382 : Nat) ({ cls := "SafeCode$Analysis", name := "makeObject", desc := "(I)V" } : Jvm.MethodName)) ∈ lw_all := lw_g (lw_at lw_m7 70 rfl) rfl
theorem q1757 : (Jvm.Cond.privateMethod ({ cls := "SafeCode$Analysis", name := "makeObject", desc := "(I)V" } : Jvm.MethodName)) ∈ lw_tbl := lw_at lw_m7 71 rfl
theorem q1758 : (Jvm.Cond.instanceMethod ({ cls := "SafeCode$Analysis", name := "makeObject", desc := "(I)V" } : Jvm.MethodName)) ∈ lw_all := lw_g (lw_at lw_m7 72 rfl) rfl
theorem q1759 : (Jvm.Cond.code ({ cls := "SafeCode$Analysis", name := "makeObject", desc := "(I)V" } : Jvm.MethodName) prog_2_method_36_code (5 : Nat) (Option.none : Option Jvm.ClassFile.FieldType)) ∈ lw_all := lw_g (lw_at lw_m7 73 rfl) rfl
theorem q1760 : (Jvm.Cond.methodLink "SafeCode$Analysis" (422 : Nat) ({ cls := "SafeCode$Program", name := "isClassBelow", desc := "(II)Z" } : Jvm.MethodName)) ∈ lw_all := lw_g (lw_at lw_m7 74 rfl) rfl
theorem q1761 : (Jvm.Cond.methodLink "SafeCode$Analysis" (428 : Nat) ({ cls := "SafeCode$Analysis", name := "zero", desc := "(I)V" } : Jvm.MethodName)) ∈ lw_all := lw_g (lw_at lw_m7 75 rfl) rfl
theorem q1762 : (Jvm.Cond.privateMethod ({ cls := "SafeCode$Analysis", name := "zero", desc := "(I)V" } : Jvm.MethodName)) ∈ lw_tbl := lw_at lw_m7 76 rfl
theorem q1763 : (Jvm.Cond.instanceMethod ({ cls := "SafeCode$Analysis", name := "zero", desc := "(I)V" } : Jvm.MethodName)) ∈ lw_all := lw_g (lw_at lw_m7 77 rfl) rfl
theorem q1764 : (Jvm.Cond.code ({ cls := "SafeCode$Analysis", name := "zero", desc := "(I)V" } : Jvm.MethodName) prog_2_method_35_code (2 : Nat) (Option.none : Option Jvm.ClassFile.FieldType)) ∈ lw_all := lw_g (lw_at lw_m7 78 rfl) rfl
theorem q1765 : (Jvm.Cond.methodLink "SafeCode$Analysis" (189 : Nat) ({ cls := "SafeCode$Slots", name := "putSites", desc := "(IJ)V" } : Jvm.MethodName)) ∈ lw_all := lw_g (lw_at lw_m7 79 rfl) rfl
theorem q1771 : (Jvm.Cond.methodLink "SafeCode$Analysis" (310 : Nat) ({ cls := "SafeCode$Unknowns", name := "add", desc := "(ILSafeCode$Values;I)Z" } : Jvm.MethodName)) ∈ lw_all := lw_g (lw_at lw_m7 85 rfl) rfl
theorem q1781 : (Jvm.Cond.methodLink "SafeCode$Analysis" (249 : Nat) ({ cls := "SafeCode$Analysis", name := "wakeAll", desc := "(II)V" } : Jvm.MethodName)) ∈ lw_all := lw_g (lw_at lw_m7 95 rfl) rfl
theorem q1782 : (Jvm.Cond.privateMethod ({ cls := "SafeCode$Analysis", name := "wakeAll", desc := "(II)V" } : Jvm.MethodName)) ∈ lw_tbl := lw_at lw_m7 96 rfl
theorem q1783 : (Jvm.Cond.instanceMethod ({ cls := "SafeCode$Analysis", name := "wakeAll", desc := "(II)V" } : Jvm.MethodName)) ∈ lw_all := lw_g (lw_at lw_m7 97 rfl) rfl
theorem q1784 : (Jvm.Cond.code ({ cls := "SafeCode$Analysis", name := "wakeAll", desc := "(II)V" } : Jvm.MethodName) prog_2_method_6_code (4 : Nat) (Option.none : Option Jvm.ClassFile.FieldType)) ∈ lw_all := lw_g (lw_at lw_m7 98 rfl) rfl
theorem q1785 : (Jvm.Cond.methodLink "SafeCode$Analysis" (259 : Nat) ({ cls := "SafeCode$Analysis", name := "pushSites", desc := "(J)V" } : Jvm.MethodName)) ∈ lw_all := lw_g (lw_at lw_m7 99 rfl) rfl
theorem q1786 : (Jvm.Cond.privateMethod ({ cls := "SafeCode$Analysis", name := "pushSites", desc := "(J)V" } : Jvm.MethodName)) ∈ lw_tbl := lw_at lw_m7 100 rfl
theorem q1787 : (Jvm.Cond.instanceMethod ({ cls := "SafeCode$Analysis", name := "pushSites", desc := "(J)V" } : Jvm.MethodName)) ∈ lw_all := lw_g (lw_at lw_m7 101 rfl) rfl
theorem q1788 : (Jvm.Cond.code ({ cls := "SafeCode$Analysis", name := "pushSites", desc := "(J)V" } : Jvm.MethodName) prog_2_method_11_code (3 : Nat) (Option.none : Option Jvm.ClassFile.FieldType)) ∈ lw_all := lw_g (lw_at lw_m7 102 rfl) rfl
theorem q1789 : (Jvm.Cond.methodLink "SafeCode$Analysis" (385 : Nat) ({ cls := "SafeCode$Analysis", name := "makeArray", desc := "(II)Z" } : Jvm.MethodName)) ∈ lw_all := lw_g (lw_at lw_m7 103 rfl) rfl
theorem q1790 : (Jvm.Cond.privateMethod ({ cls := "SafeCode$Analysis", name := "makeArray", desc := "(II)Z" } : Jvm.MethodName)) ∈ lw_tbl := lw_at lw_m7 104 rfl
theorem q1791 : (Jvm.Cond.instanceMethod ({ cls := "SafeCode$Analysis", name := "makeArray", desc := "(II)Z" } : Jvm.MethodName)) ∈ lw_all := lw_g (lw_at lw_m7 105 rfl) rfl
theorem q1792 : (Jvm.Cond.code ({ cls := "SafeCode$Analysis", name := "makeArray", desc := "(II)Z" } : Jvm.MethodName) prog_2_method_37_code (6 : Nat) (Option.some Jvm.ClassFile.FieldType.boolean)) ∈ lw_all := lw_g (lw_at lw_m7 106 rfl) rfl
theorem q1793 : (Jvm.Cond.methodLink "SafeCode$Analysis" (431 : Nat) ({ cls := "SafeCode$Program", name := "element", desc := "(I)I" } : Jvm.MethodName)) ∈ lw_all := lw_g (lw_at lw_m7 107 rfl) rfl
theorem q1794 : (Jvm.Cond.methodLink "SafeCode$Analysis" (388 : Nat) ({ cls := "SafeCode$Analysis", name := "length", desc := "(I)Z" } : Jvm.MethodName)) ∈ lw_all := lw_g (lw_at lw_m7 108 rfl) rfl
theorem q1795 : (Jvm.Cond.privateMethod ({ cls := "SafeCode$Analysis", name := "length", desc := "(I)Z" } : Jvm.MethodName)) ∈ lw_tbl := lw_at lw_m7 109 rfl
theorem q1796 : (Jvm.Cond.instanceMethod ({ cls := "SafeCode$Analysis", name := "length", desc := "(I)Z" } : Jvm.MethodName)) ∈ lw_all := lw_g (lw_at lw_m7 110 rfl) rfl
theorem q1797 : (Jvm.Cond.code ({ cls := "SafeCode$Analysis", name := "length", desc := "(I)Z" } : Jvm.MethodName) prog_2_method_38_code (3 : Nat) (Option.some Jvm.ClassFile.FieldType.boolean)) ∈ lw_all := lw_g (lw_at lw_m7 111 rfl) rfl
theorem q1798 : (Jvm.Cond.methodLink "SafeCode$Analysis" (401 : Nat) ({ cls := "SafeCode$Analysis", name := "dereference", desc := "(I)Z" } : Jvm.MethodName)) ∈ lw_all := lw_g (lw_at lw_m7 112 rfl) rfl
theorem q1799 : (Jvm.Cond.privateMethod ({ cls := "SafeCode$Analysis", name := "dereference", desc := "(I)Z" } : Jvm.MethodName)) ∈ lw_tbl := lw_at lw_m7 113 rfl
theorem q1800 : (Jvm.Cond.instanceMethod ({ cls := "SafeCode$Analysis", name := "dereference", desc := "(I)Z" } : Jvm.MethodName)) ∈ lw_all := lw_g (lw_at lw_m7 114 rfl) rfl
theorem q1801 : (Jvm.Cond.code ({ cls := "SafeCode$Analysis", name := "dereference", desc := "(I)Z" } : Jvm.MethodName) prog_2_method_33_code (2 : Nat) (Option.some Jvm.ClassFile.FieldType.boolean)) ∈ lw_all := lw_g (lw_at lw_m7 115 rfl) rfl
theorem q1802 : (Jvm.Cond.methodLink "SafeCode$Analysis" (299 : Nat) ({ cls := "SafeCode$Analysis", name := "hasNull", desc := "(J)Z" } : Jvm.MethodName)) ∈ lw_all := lw_g (lw_at lw_m7 116 rfl) rfl
theorem q1803 : (Jvm.Cond.static ({ cls := "SafeCode$Analysis", name := "hasNull", desc := "(J)Z" } : Jvm.MethodName)) ∈ lw_all := lw_g (lw_at lw_m7 117 rfl) rfl
theorem q1804 : (Jvm.Cond.code ({ cls := "SafeCode$Analysis", name := "hasNull", desc := "(J)Z" } : Jvm.MethodName) prog_2_method_15_code (2 : Nat) (Option.some Jvm.ClassFile.FieldType.boolean)) ∈ lw_all := lw_g (lw_at lw_m7 118 rfl) rfl
theorem q1805 : (Jvm.Cond.methodLink "SafeCode$Analysis" (394 : Nat) ({ cls := "SafeCode$Analysis", name := "loadAll", desc := "(ILSafeCode$Unknowns;II)Z" } : Jvm.MethodName)) ∈ lw_all := lw_g (lw_at lw_m7 119 rfl) rfl
theorem q1806 : (Jvm.Cond.privateMethod ({ cls := "SafeCode$Analysis", name := "loadAll", desc := "(ILSafeCode$Unknowns;II)Z" } : Jvm.MethodName)) ∈ lw_tbl := lw_at lw_m7 120 rfl
theorem q1807 : (Jvm.Cond.instanceMethod ({ cls := "SafeCode$Analysis", name := "loadAll", desc := "(ILSafeCode$Unknowns;II)Z" } : Jvm.MethodName)) ∈ lw_all := lw_g (lw_at lw_m7 121 rfl) rfl
theorem q1808 : (Jvm.Cond.code ({ cls := "SafeCode$Analysis", name := "loadAll", desc := "(ILSafeCode$Unknowns;II)Z" } : Jvm.MethodName) prog_2_method_40_code (9 : Nat) (Option.some Jvm.ClassFile.FieldType.boolean)) ∈ lw_all := lw_g (lw_at lw_m7 122 rfl) rfl
theorem q1809 : (Jvm.Cond.methodLink "SafeCode$Analysis" (440 : Nat) ({ cls := "SafeCode$Analysis", name := "joined", desc := "(LSafeCode$Unknowns;I)V" } : Jvm.MethodName)) ∈ lw_all := lw_g (lw_at lw_m7 123 rfl) rfl
theorem q1810 : (Jvm.Cond.privateMethod ({ cls := "SafeCode$Analysis", name := "joined", desc := "(LSafeCode$Unknowns;I)V" } : Jvm.MethodName)) ∈ lw_tbl := lw_at lw_m7 124 rfl
theorem q1811 : (Jvm.Cond.instanceMethod ({ cls := "SafeCode$Analysis", name := "joined", desc := "(LSafeCode$Unknowns;I)V" } : Jvm.MethodName)) ∈ lw_all := lw_g (lw_at lw_m7 125 rfl) rfl
theorem q1812 : (Jvm.Cond.code ({ cls := "SafeCode$Analysis", name := "joined", desc := "(LSafeCode$Unknowns;I)V" } : Jvm.MethodName) prog_2_method_39_code (4 : Nat) (Option.none : Option Jvm.ClassFile.FieldType)) ∈ lw_all := lw_g (lw_at lw_m7 126 rfl) rfl
theorem q1813 : (Jvm.Cond.methodLink "SafeCode$Analysis" (434 : Nat) ({ cls := "SafeCode$Slots", name := "joinValue", desc := "(ILSafeCode$Values;I)Z" } : Jvm.MethodName)) ∈ lw_all := lw_g (lw_at lw_m7 127 rfl) rfl
theorem q1814 : (Jvm.Cond.methodLink "SafeCode$Analysis" (391 : Nat) ({ cls := "SafeCode$Analysis", name := "index", desc := "(II)Z" } : Jvm.MethodName)) ∈ lw_all := lw_g (lw_at lw_m7 128 rfl) rfl
theorem q1815 : (Jvm.Cond.privateMethod ({ cls := "SafeCode$Analysis", name := "index", desc := "(II)Z" } : Jvm.MethodName)) ∈ lw_tbl := lw_at lw_m7 129 rfl
theorem q1816 : (Jvm.Cond.instanceMethod ({ cls := "SafeCode$Analysis", name := "index", desc := "(II)Z" } : Jvm.MethodName)) ∈ lw_all := lw_g (lw_at lw_m7 130 rfl) rfl
theorem q1817 : (Jvm.Cond.code ({ cls := "SafeCode$Analysis", name := "index", desc := "(II)Z" } : Jvm.MethodName) prog_2_method_41_code (11 : Nat) (Option.some Jvm.ClassFile.FieldType.boolean)) ∈ lw_all := lw_g (lw_at lw_m7 131 rfl) rfl
theorem q1818 : (Jvm.Cond.constantLong "SafeCode$Analysis" (446 : Nat) (9223372036854775807 : Int64)) ∈ lw_all := lw_g (lw_at lw_m7 132 rfl) rfl
theorem q1819 : (Jvm.Cond.methodLink "SafeCode$Analysis" (398 : Nat) ({ cls := "SafeCode$Analysis", name := "storeElements", desc := "(II)Z" } : Jvm.MethodName)) ∈ lw_all := lw_g (lw_at lw_m7 133 rfl) rfl
theorem q1820 : (Jvm.Cond.privateMethod ({ cls := "SafeCode$Analysis", name := "storeElements", desc := "(II)Z" } : Jvm.MethodName)) ∈ lw_tbl := lw_at lw_m7 134 rfl
theorem q1821 : (Jvm.Cond.instanceMethod ({ cls := "SafeCode$Analysis", name := "storeElements", desc := "(II)Z" } : Jvm.MethodName)) ∈ lw_all := lw_g (lw_at lw_m7 135 rfl) rfl
theorem q1822 : (Jvm.Cond.code ({ cls := "SafeCode$Analysis", name := "storeElements", desc := "(II)Z" } : Jvm.MethodName) prog_2_method_42_code (11 : Nat) (Option.some Jvm.ClassFile.FieldType.boolean)) ∈ lw_all := lw_g (lw_at lw_m7 136 rfl) rfl
theorem q1823 : (Jvm.Cond.methodLink "SafeCode$Analysis" (407 : Nat) ({ cls := "SafeCode$Analysis", name := "storeFields", desc := "(III)Z" } : Jvm.MethodName)) ∈ lw_all := lw_g (lw_at lw_m7 137 rfl) rfl
theorem q1824 : (Jvm.Cond.privateMethod ({ cls := "SafeCode$Analysis", name := "storeFields", desc := "(III)Z" } : Jvm.MethodName)) ∈ lw_tbl := lw_at lw_m7 138 rfl
theorem q1825 : (Jvm.Cond.instanceMethod ({ cls := "SafeCode$Analysis", name := "storeFields", desc := "(III)Z" } : Jvm.MethodName)) ∈ lw_all := lw_g (lw_at lw_m7 139 rfl) rfl
theorem q1826 : (Jvm.Cond.code ({ cls := "SafeCode$Analysis", name := "storeFields", desc := "(III)Z" } : Jvm.MethodName) prog_2_method_43_code (6 : Nat) (Option.some Jvm.ClassFile.FieldType.boolean)) ∈ lw_all := lw_g (lw_at lw_m7 140 rfl) rfl
theorem q1827 : (Jvm.Cond.methodLink "SafeCode$Analysis" (411 : Nat) ({ cls := "SafeCode$Analysis", name := "cast", desc := "(II)Z" } : Jvm.MethodName)) ∈ lw_all := lw_g (lw_at lw_m7 141 rfl) rfl
theorem q1828 : (Jvm.Cond.privateMethod ({ cls := "SafeCode$Analysis", name := "cast", desc := "(II)Z" } : Jvm.MethodName)) ∈ lw_tbl := lw_at lw_m7 142 rfl
theorem q1829 : (Jvm.Cond.instanceMethod ({ cls := "SafeCode$Analysis", name := "cast", desc := "(II)Z" } : Jvm.MethodName)) ∈ lw_all := lw_g (lw_at lw_m7 143 rfl) rfl
theorem q1830 : (Jvm.Cond.code ({ cls := "SafeCode$Analysis", name := "cast", desc := "(II)Z" } : Jvm.MethodName) prog_2_method_44_code (7 : Nat) (Option.some Jvm.ClassFile.FieldType.boolean)) ∈ lw_all := lw_g (lw_at lw_m7 144 rfl) rfl
theorem q1831 : (Jvm.Cond.methodLink "SafeCode$Analysis" (414 : Nat) ({ cls := "SafeCode$Analysis", name := "is", desc := "(II)Z" } : Jvm.MethodName)) ∈ lw_all := lw_g (lw_at lw_m7 145 rfl) rfl
theorem q1832 : (Jvm.Cond.privateMethod ({ cls := "SafeCode$Analysis", name := "is", desc := "(II)Z" } : Jvm.MethodName)) ∈ lw_tbl := lw_at lw_m7 146 rfl
theorem q1833 : (Jvm.Cond.instanceMethod ({ cls := "SafeCode$Analysis", name := "is", desc := "(II)Z" } : Jvm.MethodName)) ∈ lw_all := lw_g (lw_at lw_m7 147 rfl) rfl
theorem q1834 : (Jvm.Cond.code ({ cls := "SafeCode$Analysis", name := "is", desc := "(II)Z" } : Jvm.MethodName) prog_2_method_45_code (8 : Nat) (Option.some Jvm.ClassFile.FieldType.boolean)) ∈ lw_all := lw_g (lw_at lw_m7 148 rfl) rfl
theorem q1835 : (Jvm.Cond.methodLink "SafeCode$Analysis" (217 : Nat) ({ cls := "SafeCode$Analysis", name := "call", desc := "(II)Z" } : Jvm.MethodName)) ∈ lw_all := lw_g (lw_at lw_m7 149 rfl) rfl
theorem q1836 : (Jvm.Cond.privateMethod ({ cls := "SafeCode$Analysis", name := "call", desc := "(II)Z" } : Jvm.MethodName)) ∈ lw_tbl := lw_at lw_m7 150 rfl
theorem q1837 : (Jvm.Cond.instanceMethod ({ cls := "SafeCode$Analysis", name := "call", desc := "(II)Z" } : Jvm.MethodName)) ∈ lw_all := lw_g (lw_at lw_m7 151 rfl) rfl
theorem q1838 : (Jvm.Cond.code ({ cls := "SafeCode$Analysis", name := "call", desc := "(II)Z" } : Jvm.MethodName) prog_2_method_46_code (13 : Nat) (Option.some Jvm.ClassFile.FieldType.boolean)) ∈ lw_all := lw_g (lw_at lw_m7 152 rfl) rfl
theorem q1839 : (Jvm.Cond.constantLong "SafeCode$Analysis" (241 : Nat) (-1 : Int64)) ∈ lw_all := lw_g (lw_at lw_m7 153 rfl) rfl
theorem q1840 : (Jvm.Cond.methodLink "SafeCode$Analysis" (450 : Nat) ({ cls := "SafeCode$Analysis", name := "pass", desc := "(IIJZ)Z" } : Jvm.MethodName)) ∈ lw_all := lw_g (lw_at lw_m7 154 rfl) rfl
theorem q1841 : (Jvm.Cond.privateMethod ({ cls := "SafeCode$Analysis", name := "pass", desc := "(IIJZ)Z" } : Jvm.MethodName)) ∈ lw_tbl := lw_at lw_m7 155 rfl
theorem q1842 : (Jvm.Cond.instanceMethod ({ cls := "SafeCode$Analysis", name := "pass", desc := "(IIJZ)Z" } : Jvm.MethodName)) ∈ lw_all := lw_g (lw_at lw_m7 156 rfl) rfl
theorem q1843 : (Jvm.Cond.code ({ cls := "SafeCode$Analysis", name := "pass", desc := "(IIJZ)Z" } : Jvm.MethodName) prog_2_method_47_code (8 : Nat) (Option.some Jvm.ClassFile.FieldType.boolean)) ∈ lw_all := lw_g (lw_at lw_m7 157 rfl) rfl
theorem q1844 : (Jvm.Cond.methodLink "SafeCode$Analysis" (454 : Nat) ({ cls := "SafeCode$Program", name := "method", desc := "(II)I" } : Jvm.MethodName)) ∈ lw_all := lw_g (lw_at lw_m7 158 rfl) rfl
theorem q1848 : (Jvm.Cond.methodLink "SafeCode$Analysis" (220 : Nat) ({ cls := "SafeCode$Analysis", name := "simple", desc := "(II)Z" } : Jvm.MethodName)) ∈ lw_all := lw_g (lw_at lw_m7 162 rfl) rfl
theorem q1849 : (Jvm.Cond.privateMethod ({ cls := "SafeCode$Analysis", name := "simple", desc := "(II)Z" } : Jvm.MethodName)) ∈ lw_tbl := lw_at lw_m7 163 rfl
theorem q1850 : (Jvm.Cond.instanceMethod ({ cls := "SafeCode$Analysis", name := "simple", desc := "(II)Z" } : Jvm.MethodName)) ∈ lw_all := lw_g (lw_at lw_m7 164 rfl) rfl
theorem q1851 : (Jvm.Cond.code ({ cls := "SafeCode$Analysis", name := "simple", desc := "(II)Z" } : Jvm.MethodName) prog_2_method_18_code (5 : Nat) (Option.some Jvm.ClassFile.FieldType.boolean)) ∈ lw_all := lw_g (lw_at lw_m7 165 rfl) rfl
theorem q1852 : (Jvm.Cond.constant "SafeCode$Analysis" (263 : Nat) (-2147483648 : Int32)) ∈ lw_all := lw_g (lw_at lw_m7 166 rfl) rfl
theorem q1853 : (Jvm.Cond.constant "SafeCode$Analysis" (264 : Nat) (2147483647 : Int32)) ∈ lw_all := lw_g (lw_at lw_m7 167 rfl) rfl
theorem q1854 : (Jvm.Cond.methodLink "SafeCode$Analysis" (271 : Nat) ({ cls := "SafeCode$Slots", name := "forget", desc := "(II)V" } : Jvm.MethodName)) ∈ lw_all := lw_g (lw_at lw_m7 168 rfl) rfl
theorem q1858 : (Jvm.Cond.methodLink "SafeCode$Analysis" (274 : Nat) ({ cls := "SafeCode$Analysis", name := "increase", desc := "(II)V" } : Jvm.MethodName)) ∈ lw_all := lw_g (lw_at lw_m7 172 rfl) rfl
theorem q1859 : (Jvm.Cond.privateMethod ({ cls := "SafeCode$Analysis", name := "increase", desc := "(II)V" } : Jvm.MethodName)) ∈ lw_tbl := lw_at lw_m7 173 rfl
theorem q1860 : (Jvm.Cond.instanceMethod ({ cls := "SafeCode$Analysis", name := "increase", desc := "(II)V" } : Jvm.MethodName)) ∈ lw_all := lw_g (lw_at lw_m7 174 rfl) rfl
theorem q1861 : (Jvm.Cond.code ({ cls := "SafeCode$Analysis", name := "increase", desc := "(II)V" } : Jvm.MethodName) prog_2_method_19_code (4 : Nat) (Option.none : Option Jvm.ClassFile.FieldType)) ∈ lw_all := lw_g (lw_at lw_m7 175 rfl) rfl
theorem q1862 : (Jvm.Cond.methodLink "SafeCode$Analysis" (277 : Nat) ({ cls := "SafeCode$Analysis", name := "throwing", desc := "(I)V" } : Jvm.MethodName)) ∈ lw_all := lw_g (lw_at lw_m7 176 rfl) rfl
theorem q1863 : (Jvm.Cond.privateMethod ({ cls := "SafeCode$Analysis", name := "throwing", desc := "(I)V" } : Jvm.MethodName)) ∈ lw_tbl := lw_at lw_m7 177 rfl
theorem q1864 : (Jvm.Cond.instanceMethod ({ cls := "SafeCode$Analysis", name := "throwing", desc := "(I)V" } : Jvm.MethodName)) ∈ lw_all := lw_g (lw_at lw_m7 178 rfl) rfl
theorem q1865 : (Jvm.Cond.code ({ cls := "SafeCode$Analysis", name := "throwing", desc := "(I)V" } : Jvm.MethodName) prog_2_method_20_code (4 : Nat) (Option.none : Option Jvm.ClassFile.FieldType)) ∈ lw_all := lw_g (lw_at lw_m7 179 rfl) rfl
theorem q1866 : (Jvm.Cond.methodLink "SafeCode$Analysis" (280 : Nat) ({ cls := "SafeCode$Analysis", name := "end", desc := "(II)V" } : Jvm.MethodName)) ∈ lw_all := lw_g (lw_at lw_m7 180 rfl) rfl
theorem q1867 : (Jvm.Cond.privateMethod ({ cls := "SafeCode$Analysis", name := "end", desc := "(II)V" } : Jvm.MethodName)) ∈ lw_tbl := lw_at lw_m7 181 rfl
theorem q1868 : (Jvm.Cond.instanceMethod ({ cls := "SafeCode$Analysis", name := "end", desc := "(II)V" } : Jvm.MethodName)) ∈ lw_all := lw_g (lw_at lw_m7 182 rfl) rfl
theorem q1869 : (Jvm.Cond.code ({ cls := "SafeCode$Analysis", name := "end", desc := "(II)V" } : Jvm.MethodName) prog_2_method_21_code (4 : Nat) (Option.none : Option Jvm.ClassFile.FieldType)) ∈ lw_all := lw_g (lw_at lw_m7 183 rfl) rfl
theorem q1870 : (Jvm.Cond.methodLink "SafeCode$Analysis" (223 : Nat) ({ cls := "SafeCode$Analysis", name := "spread", desc := "(I)V" } : Jvm.MethodName)) ∈ lw_all := lw_g (lw_at lw_m7 184 rfl) rfl
theorem q1871 : (Jvm.Cond.privateMethod ({ cls := "SafeCode$Analysis", name := "spread", desc := "(I)V" } : Jvm.MethodName)) ∈ lw_tbl := lw_at lw_m7 185 rfl
theorem q1872 : (Jvm.Cond.instanceMethod ({ cls := "SafeCode$Analysis", name := "spread", desc := "(I)V" } : Jvm.MethodName)) ∈ lw_all := lw_g (lw_at lw_m7 186 rfl) rfl
theorem q1873 : (Jvm.Cond.code ({ cls := "SafeCode$Analysis", name := "spread", desc := "(I)V" } : Jvm.MethodName) prog_2_method_17_code (9 : Nat) (Option.none : Option Jvm.ClassFile.FieldType)) ∈ lw_all := lw_g (lw_at lw_m7 187 rfl) rfl
theorem q1874 : (Jvm.Cond.methodLink "SafeCode$Analysis" (226 : Nat) ({ cls := "SafeCode$Program", name := "goesOn", desc := "(I)Z" } : Jvm.MethodName)) ∈ lw_all := lw_g (lw_at lw_m7 188 rfl) rfl
theorem q1892 : (Jvm.Cond.instanceMethod ({ cls := "SafeCode$Analysis", name := "errorsOf", desc := "(I)I" } : Jvm.MethodName)) ∈ lw_all := lw_g (lw_at lw_m7 206 rfl) rfl
theorem q1893 : (Jvm.Cond.selects "SafeCode$Analysis" ({ cls := "SafeCode$Analysis", name := "errorsOf", desc := "(I)I" } : Jvm.MethodName) ({ cls := "SafeCode$Analysis", name := "errorsOf", desc := "(I)I" } : Jvm.MethodName)) ∈ lw_all := lw_g (lw_at lw_m7 207 rfl) rfl
theorem q1894 : (Jvm.Cond.code ({ cls := "SafeCode$Analysis", name := "errorsOf", desc := "(I)I" } : Jvm.MethodName) prog_2_method_48_code (2 : Nat) (Option.some Jvm.ClassFile.FieldType.int)) ∈ lw_all := lw_g (lw_at lw_m7 208 rfl) rfl
theorem in_X7 : ∀ w ∈ wsX70, w ∈ lw_all := lw_in wsX70 [680, 682, 684, 686, 688, 690, 692, 694, 696, 698, 700, 702, 704, 706, 708, 710, 712, 714, 716, 718, 720, 722, 724, 726, 728] (by decide +kernel) (by decide +kernel)
/-! SafeCode$Thresholds -/
def RX8 : String := "SafeCode$Thresholds"
def TX8 : u_T := fun k => match k with
  | 0 => ("SafeCode$Thresholds", "row", "[I", false)
  | _ => ("SafeCode$Thresholds", "size", "I", false)
def tyX8 : Nat → FieldType := fun k => match k with
  | 0 => .array .int
  | _ => .int
abbrev wsX80 : List Cond := u_ws RX8 TX8 2
theorem nmX8 : ∀ a, a < 2 → ∀ b, b < 2 → a ≠ b → (TX8 a).2.1 ≠ (TX8 b).2.1 := by decide +kernel
theorem tyX8_ok : ∀ k, k < 2 → parseFieldDescriptor (TX8 k).2.2.1 = some (tyX8 k) := by decide +kernel
abbrev cX8_init : ByteArray := prog_12_method_1_code
def yX8_init : MethodName := ⟨RX8, "<init>", "()V"⟩
abbrev cX8_begin : ByteArray := prog_12_method_2_code
def yX8_begin : MethodName := ⟨RX8, "begin", "()V"⟩
abbrev cX8_add : ByteArray := prog_12_method_4_code
def yX8_add : MethodName := ⟨RX8, "add", "(I)V"⟩
abbrev cX8_around : ByteArray := prog_12_method_3_code
def yX8_around : MethodName := ⟨RX8, "around", "(I)V"⟩
abbrev cX8_down : ByteArray := prog_12_method_5_code
def yX8_down : MethodName := ⟨RX8, "down", "(J)I"⟩
abbrev cX8_up : ByteArray := prog_12_method_6_code
def yX8_up : MethodName := ⟨RX8, "up", "(J)I"⟩
theorem q259 : (Jvm.Cond.initialized "SafeCode$Thresholds") ∈ lw_all := lw_g (lw_at lw_m1 13 rfl) rfl
theorem q535 : (Jvm.Cond.instantiable "SafeCode$Thresholds" (2 : Nat)) ∈ lw_all := lw_g (lw_at lw_m2 49 rfl) rfl
theorem q537 : (Jvm.Cond.instanceMethod ({ cls := "SafeCode$Thresholds", name := "<init>", desc := "()V" } : Jvm.MethodName)) ∈ lw_all := lw_g (lw_at lw_m2 51 rfl) rfl
theorem q538 : (Jvm.Cond.code ({ cls := "SafeCode$Thresholds", name := "<init>", desc := "()V" } : Jvm.MethodName) prog_12_method_1_code (1 : Nat) (Option.none : Option Jvm.ClassFile.FieldType)) ∈ lw_all := lw_g (lw_at lw_m2 52 rfl) rfl
theorem q539 : (Jvm.Cond.methodLink "SafeCode$Thresholds" (3 : Nat) ({ cls := "java/lang/Object", name := "<init>", desc := "()V" } : Jvm.MethodName)) ∈ lw_all := lw_g (lw_at lw_m2 53 rfl) rfl
theorem q540 : (Jvm.Cond.fieldLink "SafeCode$Thresholds" (9 : Nat) "SafeCode$Thresholds" "row" "[I") ∈ lw_all := lw_g (lw_at lw_m2 54 rfl) rfl
theorem q541 : (Jvm.Cond.fieldLink "SafeCode$Thresholds" (15 : Nat) "SafeCode$Thresholds" "size" "I") ∈ lw_all := lw_g (lw_at lw_m2 55 rfl) rfl
theorem q543 : (Jvm.Cond.lays "SafeCode$Thresholds" "SafeCode$Thresholds" "row" "[I") ∈ lw_all := lw_g (lw_at lw_m2 57 rfl) rfl
theorem q544 : (Jvm.Cond.soleField "SafeCode$Thresholds" "row") ∈ lw_all := lw_g (lw_at lw_m2 58 rfl) rfl
theorem q545 : (Jvm.Cond.lays "SafeCode$Thresholds" "SafeCode$Thresholds" "size" "I") ∈ lw_all := lw_g (lw_at lw_m2 59 rfl) rfl
theorem q546 : (Jvm.Cond.soleField "SafeCode$Thresholds" "size") ∈ lw_all := lw_g (lw_at lw_m2 60 rfl) rfl
theorem q547 : (Jvm.Cond.superclass "SafeCode$Thresholds" "java/lang/Object") ∈ lw_all := lw_g (lw_at lw_m2 61 rfl) rfl
theorem q1543 : (Jvm.Cond.instanceMethod ({ cls := "SafeCode$Thresholds", name := "begin", desc := "()V" } : Jvm.MethodName)) ∈ lw_all := lw_g (lw_at lw_m6 97 rfl) rfl
theorem q1544 : (Jvm.Cond.selects "SafeCode$Thresholds" ({ cls := "SafeCode$Thresholds", name := "begin", desc := "()V" } : Jvm.MethodName) ({ cls := "SafeCode$Thresholds", name := "begin", desc := "()V" } : Jvm.MethodName)) ∈ lw_all := lw_g (lw_at lw_m6 98 rfl) rfl
theorem q1545 : (Jvm.Cond.code ({ cls := "SafeCode$Thresholds", name := "begin", desc := "()V" } : Jvm.MethodName) prog_12_method_2_code (1 : Nat) (Option.none : Option Jvm.ClassFile.FieldType)) ∈ lw_all := lw_g (lw_at lw_m6 99 rfl) rfl
theorem q1546 : (Jvm.Cond.constant "SafeCode$Thresholds" (19 : Nat) (-2147483648 : Int32)) ∈ lw_all := lw_g (lw_at lw_m6 100 rfl) rfl
theorem q1547 : (Jvm.Cond.methodLink "SafeCode$Thresholds" (20 : Nat) ({ cls := "SafeCode$Thresholds", name := "add", desc := "(I)V" } : Jvm.MethodName)) ∈ lw_all := lw_g (lw_at lw_m6 101 rfl) rfl
theorem q1548 : (Jvm.Cond.privateMethod ({ cls := "SafeCode$Thresholds", name := "add", desc := "(I)V" } : Jvm.MethodName)) ∈ lw_tbl := lw_at lw_m6 102 rfl
theorem q1549 : (Jvm.Cond.instanceMethod ({ cls := "SafeCode$Thresholds", name := "add", desc := "(I)V" } : Jvm.MethodName)) ∈ lw_all := lw_g (lw_at lw_m6 103 rfl) rfl
theorem q1550 : (Jvm.Cond.code ({ cls := "SafeCode$Thresholds", name := "add", desc := "(I)V" } : Jvm.MethodName) prog_12_method_4_code (4 : Nat) (Option.none : Option Jvm.ClassFile.FieldType)) ∈ lw_all := lw_g (lw_at lw_m6 104 rfl) rfl
theorem q1551 : (Jvm.Cond.methodLink "SafeCode$Thresholds" (27 : Nat) ({ cls := "java/util/Arrays", name := "copyOf", desc := "([II)[I" } : Jvm.MethodName)) ∈ lw_all := lw_g (lw_at lw_m6 105 rfl) rfl
theorem q1552 : (Jvm.Cond.constant "SafeCode$Thresholds" (24 : Nat) (-2147483647 : Int32)) ∈ lw_all := lw_g (lw_at lw_m6 106 rfl) rfl
theorem q1553 : (Jvm.Cond.constant "SafeCode$Thresholds" (25 : Nat) (2147483646 : Int32)) ∈ lw_all := lw_g (lw_at lw_m6 107 rfl) rfl
theorem q1554 : (Jvm.Cond.constant "SafeCode$Thresholds" (26 : Nat) (2147483647 : Int32)) ∈ lw_all := lw_g (lw_at lw_m6 108 rfl) rfl
theorem q1556 : (Jvm.Cond.instanceMethod ({ cls := "SafeCode$Thresholds", name := "around", desc := "(I)V" } : Jvm.MethodName)) ∈ lw_all := lw_g (lw_at lw_m6 110 rfl) rfl
theorem q1557 : (Jvm.Cond.selects "SafeCode$Thresholds" ({ cls := "SafeCode$Thresholds", name := "around", desc := "(I)V" } : Jvm.MethodName) ({ cls := "SafeCode$Thresholds", name := "around", desc := "(I)V" } : Jvm.MethodName)) ∈ lw_all := lw_g (lw_at lw_m6 111 rfl) rfl
theorem q1558 : (Jvm.Cond.code ({ cls := "SafeCode$Thresholds", name := "around", desc := "(I)V" } : Jvm.MethodName) prog_12_method_3_code (2 : Nat) (Option.none : Option Jvm.ClassFile.FieldType)) ∈ lw_all := lw_g (lw_at lw_m6 112 rfl) rfl
theorem q1667 : (Jvm.Cond.instanceMethod ({ cls := "SafeCode$Thresholds", name := "down", desc := "(J)I" } : Jvm.MethodName)) ∈ lw_all := lw_g (lw_at lw_m6 221 rfl) rfl
theorem q1668 : (Jvm.Cond.selects "SafeCode$Thresholds" ({ cls := "SafeCode$Thresholds", name := "down", desc := "(J)I" } : Jvm.MethodName) ({ cls := "SafeCode$Thresholds", name := "down", desc := "(J)I" } : Jvm.MethodName)) ∈ lw_all := lw_g (lw_at lw_m6 222 rfl) rfl
theorem q1669 : (Jvm.Cond.code ({ cls := "SafeCode$Thresholds", name := "down", desc := "(J)I" } : Jvm.MethodName) prog_12_method_5_code (6 : Nat) (Option.some Jvm.ClassFile.FieldType.int)) ∈ lw_all := lw_g (lw_at lw_m6 223 rfl) rfl
theorem q1671 : (Jvm.Cond.instanceMethod ({ cls := "SafeCode$Thresholds", name := "up", desc := "(J)I" } : Jvm.MethodName)) ∈ lw_all := lw_g (lw_at lw_m6 225 rfl) rfl
theorem q1672 : (Jvm.Cond.selects "SafeCode$Thresholds" ({ cls := "SafeCode$Thresholds", name := "up", desc := "(J)I" } : Jvm.MethodName) ({ cls := "SafeCode$Thresholds", name := "up", desc := "(J)I" } : Jvm.MethodName)) ∈ lw_all := lw_g (lw_at lw_m6 226 rfl) rfl
theorem q1673 : (Jvm.Cond.code ({ cls := "SafeCode$Thresholds", name := "up", desc := "(J)I" } : Jvm.MethodName) prog_12_method_6_code (6 : Nat) (Option.some Jvm.ClassFile.FieldType.int)) ∈ lw_all := lw_g (lw_at lw_m6 227 rfl) rfl
theorem in_X8 : ∀ w ∈ wsX80, w ∈ lw_all := lw_in wsX80 [543, 545] (by decide +kernel) (by decide +kernel)
/-! SafeCode$Arithmetic -/
def RX9 : String := "SafeCode$Arithmetic"
def TX9 : u_T := fun k => match k with
  | 0 => ("SafeCode$Arithmetic", "t", "LSafeCode$Thresholds;", true)
  | 1 => ("SafeCode$Arithmetic", "low", "I", false)
  | 2 => ("SafeCode$Arithmetic", "high", "I", false)
  | 3 => ("SafeCode$Arithmetic", "least", "J", false)
  | _ => ("SafeCode$Arithmetic", "greatest", "J", false)
def tyX9 : Nat → FieldType := fun k => match k with
  | 0 => .object "SafeCode$Thresholds"
  | 1 => .int
  | 2 => .int
  | 3 => .long
  | _ => .long
abbrev wsX90 : List Cond := u_ws RX9 TX9 5
theorem nmX9 : ∀ a, a < 5 → ∀ b, b < 5 → a ≠ b → (TX9 a).2.1 ≠ (TX9 b).2.1 := by decide +kernel
theorem tyX9_ok : ∀ k, k < 5 → parseFieldDescriptor (TX9 k).2.2.1 = some (tyX9 k) := by decide +kernel
abbrev cX9_init : ByteArray := prog_3_method_1_code
def yX9_init : MethodName := ⟨RX9, "<init>", "(LSafeCode$Thresholds;)V"⟩
abbrev cX9_negate : ByteArray := prog_3_method_3_code
def yX9_negate : MethodName := ⟨RX9, "negate", "(JJ)V"⟩
abbrev cX9_put : ByteArray := prog_3_method_2_code
def yX9_put : MethodName := ⟨RX9, "put", "(JJ)V"⟩
abbrev cX9_work : ByteArray := prog_3_method_4_code
def yX9_work : MethodName := ⟨RX9, "work", "(IJJJJ)Z"⟩
abbrev cX9_product : ByteArray := prog_3_method_5_code
def yX9_product : MethodName := ⟨RX9, "product", "(JJJJ)V"⟩
abbrev cX9_quotient : ByteArray := prog_3_method_7_code
def yX9_quotient : MethodName := ⟨RX9, "quotient", "(JJJJ)V"⟩
abbrev cX9_divide : ByteArray := prog_3_method_6_code
def yX9_divide : MethodName := ⟨RX9, "divide", "(JJJ)V"⟩
abbrev cX9_rest : ByteArray := prog_3_method_8_code
def yX9_rest : MethodName := ⟨RX9, "rest", "(JJJ)V"⟩
abbrev cX9_bits : ByteArray := prog_3_method_9_code
def yX9_bits : MethodName := ⟨RX9, "bits", "(IJJJJ)V"⟩
theorem q260 : (Jvm.Cond.initialized "SafeCode$Arithmetic") ∈ lw_all := lw_g (lw_at lw_m1 14 rfl) rfl
theorem q549 : (Jvm.Cond.instantiable "SafeCode$Arithmetic" (5 : Nat)) ∈ lw_all := lw_g (lw_at lw_m2 63 rfl) rfl
theorem q551 : (Jvm.Cond.instanceMethod ({ cls := "SafeCode$Arithmetic", name := "<init>", desc := "(LSafeCode$Thresholds;)V" } : Jvm.MethodName)) ∈ lw_all := lw_g (lw_at lw_m2 65 rfl) rfl
theorem q552 : (Jvm.Cond.code ({ cls := "SafeCode$Arithmetic", name := "<init>", desc := "(LSafeCode$Thresholds;)V" } : Jvm.MethodName) prog_3_method_1_code (2 : Nat) (Option.none : Option Jvm.ClassFile.FieldType)) ∈ lw_all := lw_g (lw_at lw_m2 66 rfl) rfl
theorem q553 : (Jvm.Cond.methodLink "SafeCode$Arithmetic" (3 : Nat) ({ cls := "java/lang/Object", name := "<init>", desc := "()V" } : Jvm.MethodName)) ∈ lw_all := lw_g (lw_at lw_m2 67 rfl) rfl
theorem q554 : (Jvm.Cond.fieldLink "SafeCode$Arithmetic" (9 : Nat) "SafeCode$Arithmetic" "t" "LSafeCode$Thresholds;") ∈ lw_all := lw_g (lw_at lw_m2 68 rfl) rfl
theorem q555 : (Jvm.Cond.fieldLink "SafeCode$Arithmetic" (26 : Nat) "SafeCode$Arithmetic" "low" "I") ∈ lw_all := lw_g (lw_at lw_m2 69 rfl) rfl
theorem q557 : (Jvm.Cond.fieldLink "SafeCode$Arithmetic" (34 : Nat) "SafeCode$Arithmetic" "high" "I") ∈ lw_all := lw_g (lw_at lw_m2 71 rfl) rfl
theorem q559 : (Jvm.Cond.fieldLink "SafeCode$Arithmetic" (69 : Nat) "SafeCode$Arithmetic" "least" "J") ∈ lw_all := lw_g (lw_at lw_m2 73 rfl) rfl
theorem q560 : (Jvm.Cond.fieldLink "SafeCode$Arithmetic" (73 : Nat) "SafeCode$Arithmetic" "greatest" "J") ∈ lw_all := lw_g (lw_at lw_m2 74 rfl) rfl
theorem q561 : (Jvm.Cond.laysFinal "SafeCode$Arithmetic" "SafeCode$Arithmetic" "t" "LSafeCode$Thresholds;") ∈ lw_all := lw_g (lw_at lw_m2 75 rfl) rfl
theorem q562 : (Jvm.Cond.soleField "SafeCode$Arithmetic" "t") ∈ lw_all := lw_g (lw_at lw_m2 76 rfl) rfl
theorem q563 : (Jvm.Cond.lays "SafeCode$Arithmetic" "SafeCode$Arithmetic" "low" "I") ∈ lw_all := lw_g (lw_at lw_m2 77 rfl) rfl
theorem q564 : (Jvm.Cond.soleField "SafeCode$Arithmetic" "low") ∈ lw_all := lw_g (lw_at lw_m2 78 rfl) rfl
theorem q565 : (Jvm.Cond.lays "SafeCode$Arithmetic" "SafeCode$Arithmetic" "high" "I") ∈ lw_all := lw_g (lw_at lw_m2 79 rfl) rfl
theorem q566 : (Jvm.Cond.soleField "SafeCode$Arithmetic" "high") ∈ lw_all := lw_g (lw_at lw_m2 80 rfl) rfl
theorem q567 : (Jvm.Cond.lays "SafeCode$Arithmetic" "SafeCode$Arithmetic" "least" "J") ∈ lw_all := lw_g (lw_at lw_m2 81 rfl) rfl
theorem q568 : (Jvm.Cond.soleField "SafeCode$Arithmetic" "least") ∈ lw_all := lw_g (lw_at lw_m2 82 rfl) rfl
theorem q569 : (Jvm.Cond.lays "SafeCode$Arithmetic" "SafeCode$Arithmetic" "greatest" "J") ∈ lw_all := lw_g (lw_at lw_m2 83 rfl) rfl
theorem q570 : (Jvm.Cond.soleField "SafeCode$Arithmetic" "greatest") ∈ lw_all := lw_g (lw_at lw_m2 84 rfl) rfl
theorem q571 : (Jvm.Cond.superclass "SafeCode$Arithmetic" "java/lang/Object") ∈ lw_all := lw_g (lw_at lw_m2 85 rfl) rfl
theorem q1688 : (Jvm.Cond.instanceMethod ({ cls := "SafeCode$Arithmetic", name := "negate", desc := "(JJ)V" } : Jvm.MethodName)) ∈ lw_all := lw_g (lw_at lw_m7 2 rfl) rfl
theorem q1689 : (Jvm.Cond.selects "SafeCode$Arithmetic" ({ cls := "SafeCode$Arithmetic", name := "negate", desc := "(JJ)V" } : Jvm.MethodName) ({ cls := "SafeCode$Arithmetic", name := "negate", desc := "(JJ)V" } : Jvm.MethodName)) ∈ lw_all := lw_g (lw_at lw_m7 3 rfl) rfl
theorem q1690 : (Jvm.Cond.code ({ cls := "SafeCode$Arithmetic", name := "negate", desc := "(JJ)V" } : Jvm.MethodName) prog_3_method_3_code (5 : Nat) (Option.none : Option Jvm.ClassFile.FieldType)) ∈ lw_all := lw_g (lw_at lw_m7 4 rfl) rfl
theorem q1691 : (Jvm.Cond.methodLink "SafeCode$Arithmetic" (37 : Nat) ({ cls := "SafeCode$Arithmetic", name := "put", desc := "(JJ)V" } : Jvm.MethodName)) ∈ lw_all := lw_g (lw_at lw_m7 5 rfl) rfl
theorem q1692 : (Jvm.Cond.privateMethod ({ cls := "SafeCode$Arithmetic", name := "put", desc := "(JJ)V" } : Jvm.MethodName)) ∈ lw_tbl := lw_at lw_m7 6 rfl
theorem q1693 : (Jvm.Cond.instanceMethod ({ cls := "SafeCode$Arithmetic", name := "put", desc := "(JJ)V" } : Jvm.MethodName)) ∈ lw_all := lw_g (lw_at lw_m7 7 rfl) rfl
theorem q1694 : (Jvm.Cond.code ({ cls := "SafeCode$Arithmetic", name := "put", desc := "(JJ)V" } : Jvm.MethodName) prog_3_method_2_code (6 : Nat) (Option.none : Option Jvm.ClassFile.FieldType)) ∈ lw_all := lw_g (lw_at lw_m7 8 rfl) rfl
theorem q1695 : (Jvm.Cond.constantLong "SafeCode$Arithmetic" (15 : Nat) (-2147483648 : Int64)) ∈ lw_all := lw_g (lw_at lw_m7 9 rfl) rfl
theorem q1696 : (Jvm.Cond.constantLong "SafeCode$Arithmetic" (17 : Nat) (2147483647 : Int64)) ∈ lw_all := lw_g (lw_at lw_m7 10 rfl) rfl
theorem q1697 : (Jvm.Cond.methodLink "SafeCode$Arithmetic" (19 : Nat) ({ cls := "SafeCode$Thresholds", name := "down", desc := "(J)I" } : Jvm.MethodName)) ∈ lw_all := lw_g (lw_at lw_m7 11 rfl) rfl
theorem q1698 : (Jvm.Cond.constant "SafeCode$Arithmetic" (25 : Nat) (-2147483648 : Int32)) ∈ lw_all := lw_g (lw_at lw_m7 12 rfl) rfl
theorem q1699 : (Jvm.Cond.methodLink "SafeCode$Arithmetic" (30 : Nat) ({ cls := "SafeCode$Thresholds", name := "up", desc := "(J)I" } : Jvm.MethodName)) ∈ lw_all := lw_g (lw_at lw_m7 13 rfl) rfl
theorem q1700 : (Jvm.Cond.constant "SafeCode$Arithmetic" (33 : Nat) (2147483647 : Int32)) ∈ lw_all := lw_g (lw_at lw_m7 14 rfl) rfl
theorem q1720 : (Jvm.Cond.instanceMethod ({ cls := "SafeCode$Arithmetic", name := "work", desc := "(IJJJJ)Z" } : Jvm.MethodName)) ∈ lw_all := lw_g (lw_at lw_m7 34 rfl) rfl
theorem q1721 : (Jvm.Cond.selects "SafeCode$Arithmetic" ({ cls := "SafeCode$Arithmetic", name := "work", desc := "(IJJJJ)Z" } : Jvm.MethodName) ({ cls := "SafeCode$Arithmetic", name := "work", desc := "(IJJJJ)Z" } : Jvm.MethodName)) ∈ lw_all := lw_g (lw_at lw_m7 35 rfl) rfl
theorem q1722 : (Jvm.Cond.code ({ cls := "SafeCode$Arithmetic", name := "work", desc := "(IJJJJ)Z" } : Jvm.MethodName) prog_3_method_4_code (10 : Nat) (Option.some Jvm.ClassFile.FieldType.boolean)) ∈ lw_all := lw_g (lw_at lw_m7 36 rfl) rfl
theorem q1723 : (Jvm.Cond.methodLink "SafeCode$Arithmetic" (41 : Nat) ({ cls := "SafeCode$Arithmetic", name := "product", desc := "(JJJJ)V" } : Jvm.MethodName)) ∈ lw_all := lw_g (lw_at lw_m7 37 rfl) rfl
theorem q1724 : (Jvm.Cond.privateMethod ({ cls := "SafeCode$Arithmetic", name := "product", desc := "(JJJJ)V" } : Jvm.MethodName)) ∈ lw_tbl := lw_at lw_m7 38 rfl
theorem q1725 : (Jvm.Cond.instanceMethod ({ cls := "SafeCode$Arithmetic", name := "product", desc := "(JJJJ)V" } : Jvm.MethodName)) ∈ lw_all := lw_g (lw_at lw_m7 39 rfl) rfl
theorem q1726 : (Jvm.Cond.code ({ cls := "SafeCode$Arithmetic", name := "product", desc := "(JJJJ)V" } : Jvm.MethodName) prog_3_method_5_code (9 : Nat) (Option.none : Option Jvm.ClassFile.FieldType)) ∈ lw_all := lw_g (lw_at lw_m7 40 rfl) rfl
theorem q1727 : (Jvm.Cond.methodLink "SafeCode$Arithmetic" (66 : Nat) ({ cls := "java/lang/Math", name := "min", desc := "(JJ)J" } : Jvm.MethodName)) ∈ lw_all := lw_g (lw_at lw_m7 41 rfl) rfl
theorem q1728 : (Jvm.Cond.methodLink "SafeCode$Arithmetic" (54 : Nat) ({ cls := "java/lang/Math", name := "max", desc := "(JJ)J" } : Jvm.MethodName)) ∈ lw_all := lw_g (lw_at lw_m7 42 rfl) rfl
theorem q1729 : (Jvm.Cond.methodLink "SafeCode$Arithmetic" (45 : Nat) ({ cls := "SafeCode$Arithmetic", name := "quotient", desc := "(JJJJ)V" } : Jvm.MethodName)) ∈ lw_all := lw_g (lw_at lw_m7 43 rfl) rfl
theorem q1730 : (Jvm.Cond.privateMethod ({ cls := "SafeCode$Arithmetic", name := "quotient", desc := "(JJJJ)V" } : Jvm.MethodName)) ∈ lw_tbl := lw_at lw_m7 44 rfl
theorem q1731 : (Jvm.Cond.instanceMethod ({ cls := "SafeCode$Arithmetic", name := "quotient", desc := "(JJJJ)V" } : Jvm.MethodName)) ∈ lw_all := lw_g (lw_at lw_m7 45 rfl) rfl
theorem q1732 : (Jvm.Cond.code ({ cls := "SafeCode$Arithmetic", name := "quotient", desc := "(JJJJ)V" } : Jvm.MethodName) prog_3_method_7_code (9 : Nat) (Option.none : Option Jvm.ClassFile.FieldType)) ∈ lw_all := lw_g (lw_at lw_m7 46 rfl) rfl
theorem q1733 : (Jvm.Cond.constantLong "SafeCode$Arithmetic" (78 : Nat) (9223372036854775807 : Int64)) ∈ lw_all := lw_g (lw_at lw_m7 47 rfl) rfl
theorem q1734 : (Jvm.Cond.constantLong "SafeCode$Arithmetic" (80 : Nat) (-9223372036854775808 : Int64)) ∈ lw_all := lw_g (lw_at lw_m7 48 rfl) rfl
theorem q1735 : (Jvm.Cond.methodLink "SafeCode$Arithmetic" (82 : Nat) ({ cls := "SafeCode$Arithmetic", name := "divide", desc := "(JJJ)V" } : Jvm.MethodName)) ∈ lw_all := lw_g (lw_at lw_m7 49 rfl) rfl
theorem q1736 : (Jvm.Cond.privateMethod ({ cls := "SafeCode$Arithmetic", name := "divide", desc := "(JJJ)V" } : Jvm.MethodName)) ∈ lw_tbl := lw_at lw_m7 50 rfl
theorem q1737 : (Jvm.Cond.instanceMethod ({ cls := "SafeCode$Arithmetic", name := "divide", desc := "(JJJ)V" } : Jvm.MethodName)) ∈ lw_all := lw_g (lw_at lw_m7 51 rfl) rfl
theorem q1738 : (Jvm.Cond.code ({ cls := "SafeCode$Arithmetic", name := "divide", desc := "(JJJ)V" } : Jvm.MethodName) prog_3_method_6_code (7 : Nat) (Option.none : Option Jvm.ClassFile.FieldType)) ∈ lw_all := lw_g (lw_at lw_m7 52 rfl) rfl
theorem q1739 : (Jvm.Cond.constantLong "SafeCode$Arithmetic" (85 : Nat) (-1 : Int64)) ∈ lw_all := lw_g (lw_at lw_m7 53 rfl) rfl
theorem q1740 : (Jvm.Cond.methodLink "SafeCode$Arithmetic" (48 : Nat) ({ cls := "java/lang/Math", name := "abs", desc := "(J)J" } : Jvm.MethodName)) ∈ lw_all := lw_g (lw_at lw_m7 54 rfl) rfl
theorem q1743 : (Jvm.Cond.methodLink "SafeCode$Arithmetic" (58 : Nat) ({ cls := "SafeCode$Arithmetic", name := "rest", desc := "(JJJ)V" } : Jvm.MethodName)) ∈ lw_all := lw_g (lw_at lw_m7 57 rfl) rfl
theorem q1744 : (Jvm.Cond.privateMethod ({ cls := "SafeCode$Arithmetic", name := "rest", desc := "(JJJ)V" } : Jvm.MethodName)) ∈ lw_tbl := lw_at lw_m7 58 rfl
theorem q1745 : (Jvm.Cond.instanceMethod ({ cls := "SafeCode$Arithmetic", name := "rest", desc := "(JJJ)V" } : Jvm.MethodName)) ∈ lw_all := lw_g (lw_at lw_m7 59 rfl) rfl
theorem q1746 : (Jvm.Cond.code ({ cls := "SafeCode$Arithmetic", name := "rest", desc := "(JJJ)V" } : Jvm.MethodName) prog_3_method_8_code (7 : Nat) (Option.none : Option Jvm.ClassFile.FieldType)) ∈ lw_all := lw_g (lw_at lw_m7 60 rfl) rfl
theorem q1747 : (Jvm.Cond.methodLink "SafeCode$Arithmetic" (62 : Nat) ({ cls := "SafeCode$Arithmetic", name := "bits", desc := "(IJJJJ)V" } : Jvm.MethodName)) ∈ lw_all := lw_g (lw_at lw_m7 61 rfl) rfl
theorem q1748 : (Jvm.Cond.privateMethod ({ cls := "SafeCode$Arithmetic", name := "bits", desc := "(IJJJJ)V" } : Jvm.MethodName)) ∈ lw_tbl := lw_at lw_m7 62 rfl
theorem q1749 : (Jvm.Cond.instanceMethod ({ cls := "SafeCode$Arithmetic", name := "bits", desc := "(IJJJJ)V" } : Jvm.MethodName)) ∈ lw_all := lw_g (lw_at lw_m7 63 rfl) rfl
theorem q1750 : (Jvm.Cond.code ({ cls := "SafeCode$Arithmetic", name := "bits", desc := "(IJJJJ)V" } : Jvm.MethodName) prog_3_method_9_code (13 : Nat) (Option.none : Option Jvm.ClassFile.FieldType)) ∈ lw_all := lw_g (lw_at lw_m7 64 rfl) rfl
theorem q1751 : (Jvm.Cond.constantLong "SafeCode$Arithmetic" (87 : Nat) (2 : Int64)) ∈ lw_all := lw_g (lw_at lw_m7 65 rfl) rfl
theorem in_X9 : ∀ w ∈ wsX90, w ∈ lw_all := lw_in wsX90 [561, 563, 565, 567, 569] (by decide +kernel) (by decide +kernel)
/-! SafeCode$Values -/
def RX10 : String := "SafeCode$Values"
abbrev cX10_init : ByteArray := prog_15_method_1_code
def yX10_init : MethodName := ⟨RX10, "<init>", "(I)V"⟩
abbrev cX10_unset : ByteArray := prog_15_method_4_code
def yX10_unset : MethodName := ⟨RX10, "unset", "(I)V"⟩
abbrev cX10_putValue : ByteArray := prog_15_method_5_code
def yX10_putValue : MethodName := ⟨RX10, "putValue", "(ILSafeCode$Values;I)V"⟩
abbrev cX10_joinValue : ByteArray := prog_15_method_6_code
def yX10_joinValue : MethodName := ⟨RX10, "joinValue", "(ILSafeCode$Values;I)Z"⟩
abbrev cX10_putRange : ByteArray := prog_15_method_2_code
def yX10_putRange : MethodName := ⟨RX10, "putRange", "(III)V"⟩
abbrev cX10_putSites : ByteArray := prog_15_method_3_code
def yX10_putSites : MethodName := ⟨RX10, "putSites", "(IJ)V"⟩
theorem q261 : (Jvm.Cond.initialized "SafeCode$Values") ∈ lw_all := lw_g (lw_at lw_m1 15 rfl) rfl
theorem q578 : (Jvm.Cond.instanceMethod ({ cls := "SafeCode$Values", name := "<init>", desc := "(I)V" } : Jvm.MethodName)) ∈ lw_all := lw_g (lw_at lw_m2 92 rfl) rfl
theorem q579 : (Jvm.Cond.code ({ cls := "SafeCode$Values", name := "<init>", desc := "(I)V" } : Jvm.MethodName) prog_15_method_1_code (2 : Nat) (Option.none : Option Jvm.ClassFile.FieldType)) ∈ lw_all := lw_g (lw_at lw_m2 93 rfl) rfl
theorem q580 : (Jvm.Cond.methodLink "SafeCode$Values" (3 : Nat) ({ cls := "java/lang/Object", name := "<init>", desc := "()V" } : Jvm.MethodName)) ∈ lw_all := lw_g (lw_at lw_m2 94 rfl) rfl
theorem q593 : (Jvm.Cond.fieldLink "SafeCode$Values" (9 : Nat) "SafeCode$Values" "kind" "[I") ∈ lw_all := lw_g (lw_at lw_m2 107 rfl) rfl
theorem q597 : (Jvm.Cond.fieldLink "SafeCode$Values" (15 : Nat) "SafeCode$Values" "low" "[I") ∈ lw_all := lw_g (lw_at lw_m2 111 rfl) rfl
theorem q604 : (Jvm.Cond.fieldLink "SafeCode$Values" (18 : Nat) "SafeCode$Values" "high" "[I") ∈ lw_all := lw_g (lw_at lw_m2 118 rfl) rfl
theorem q611 : (Jvm.Cond.fieldLink "SafeCode$Values" (21 : Nat) "SafeCode$Values" "sites" "[J") ∈ lw_all := lw_g (lw_at lw_m2 125 rfl) rfl
theorem q624 : (Jvm.Cond.soleField "SafeCode$Values" "kind") ∈ lw_all := lw_g (lw_at lw_m2 138 rfl) rfl
theorem q626 : (Jvm.Cond.soleField "SafeCode$Values" "low") ∈ lw_all := lw_g (lw_at lw_m2 140 rfl) rfl
theorem q628 : (Jvm.Cond.soleField "SafeCode$Values" "high") ∈ lw_all := lw_g (lw_at lw_m2 142 rfl) rfl
theorem q630 : (Jvm.Cond.soleField "SafeCode$Values" "sites") ∈ lw_all := lw_g (lw_at lw_m2 144 rfl) rfl
theorem q1574 : (Jvm.Cond.declares ({ cls := "SafeCode$Values", name := "unset", desc := "(I)V" } : Jvm.MethodName)) ∈ lw_tbl := lw_at lw_m6 128 rfl
theorem q1576 : (Jvm.Cond.instanceMethod ({ cls := "SafeCode$Values", name := "unset", desc := "(I)V" } : Jvm.MethodName)) ∈ lw_all := lw_g (lw_at lw_m6 130 rfl) rfl
theorem q1577 : (Jvm.Cond.code ({ cls := "SafeCode$Values", name := "unset", desc := "(I)V" } : Jvm.MethodName) prog_15_method_4_code (2 : Nat) (Option.none : Option Jvm.ClassFile.FieldType)) ∈ lw_all := lw_g (lw_at lw_m6 131 rfl) rfl
theorem q1584 : (Jvm.Cond.declares ({ cls := "SafeCode$Values", name := "putValue", desc := "(ILSafeCode$Values;I)V" } : Jvm.MethodName)) ∈ lw_tbl := lw_at lw_m6 138 rfl
theorem q1586 : (Jvm.Cond.instanceMethod ({ cls := "SafeCode$Values", name := "putValue", desc := "(ILSafeCode$Values;I)V" } : Jvm.MethodName)) ∈ lw_all := lw_g (lw_at lw_m6 140 rfl) rfl
theorem q1587 : (Jvm.Cond.code ({ cls := "SafeCode$Values", name := "putValue", desc := "(ILSafeCode$Values;I)V" } : Jvm.MethodName) prog_15_method_5_code (4 : Nat) (Option.none : Option Jvm.ClassFile.FieldType)) ∈ lw_all := lw_g (lw_at lw_m6 141 rfl) rfl
theorem q1603 : (Jvm.Cond.declares ({ cls := "SafeCode$Values", name := "joinValue", desc := "(ILSafeCode$Values;I)Z" } : Jvm.MethodName)) ∈ lw_tbl := lw_at lw_m6 157 rfl
theorem q1605 : (Jvm.Cond.instanceMethod ({ cls := "SafeCode$Values", name := "joinValue", desc := "(ILSafeCode$Values;I)Z" } : Jvm.MethodName)) ∈ lw_all := lw_g (lw_at lw_m6 159 rfl) rfl
theorem q1606 : (Jvm.Cond.code ({ cls := "SafeCode$Values", name := "joinValue", desc := "(ILSafeCode$Values;I)Z" } : Jvm.MethodName) prog_15_method_6_code (9 : Nat) (Option.some Jvm.ClassFile.FieldType.boolean)) ∈ lw_all := lw_g (lw_at lw_m6 160 rfl) rfl
theorem q1607 : (Jvm.Cond.methodLink "SafeCode$Values" (25 : Nat) ({ cls := "SafeCode$Values", name := "unset", desc := "(I)V" } : Jvm.MethodName)) ∈ lw_all := lw_g (lw_at lw_m6 161 rfl) rfl
theorem q1608 : (Jvm.Cond.methodLink "SafeCode$Values" (29 : Nat) ({ cls := "java/lang/Math", name := "min", desc := "(II)I" } : Jvm.MethodName)) ∈ lw_all := lw_g (lw_at lw_m6 162 rfl) rfl
theorem q1609 : (Jvm.Cond.methodLink "SafeCode$Values" (35 : Nat) ({ cls := "java/lang/Math", name := "max", desc := "(II)I" } : Jvm.MethodName)) ∈ lw_all := lw_g (lw_at lw_m6 163 rfl) rfl
theorem q1711 : (Jvm.Cond.declares ({ cls := "SafeCode$Values", name := "putRange", desc := "(III)V" } : Jvm.MethodName)) ∈ lw_tbl := lw_at lw_m7 25 rfl
theorem q1713 : (Jvm.Cond.instanceMethod ({ cls := "SafeCode$Values", name := "putRange", desc := "(III)V" } : Jvm.MethodName)) ∈ lw_all := lw_g (lw_at lw_m7 27 rfl) rfl
theorem q1714 : (Jvm.Cond.code ({ cls := "SafeCode$Values", name := "putRange", desc := "(III)V" } : Jvm.MethodName) prog_15_method_2_code (4 : Nat) (Option.none : Option Jvm.ClassFile.FieldType)) ∈ lw_all := lw_g (lw_at lw_m7 28 rfl) rfl
theorem q1767 : (Jvm.Cond.declares ({ cls := "SafeCode$Values", name := "putSites", desc := "(IJ)V" } : Jvm.MethodName)) ∈ lw_tbl := lw_at lw_m7 81 rfl
theorem q1769 : (Jvm.Cond.instanceMethod ({ cls := "SafeCode$Values", name := "putSites", desc := "(IJ)V" } : Jvm.MethodName)) ∈ lw_all := lw_g (lw_at lw_m7 83 rfl) rfl
theorem q1770 : (Jvm.Cond.code ({ cls := "SafeCode$Values", name := "putSites", desc := "(IJ)V" } : Jvm.MethodName) prog_15_method_3_code (4 : Nat) (Option.none : Option Jvm.ClassFile.FieldType)) ∈ lw_all := lw_g (lw_at lw_m7 84 rfl) rfl
theorem q3157 : (Jvm.Cond.sameMethod "SafeCode$Values" "SafeCode$Values" "unset" "(I)V") ∈ lw_all := lw_g (lw_at lw_m13 31 rfl) rfl
/-! SafeCode$Slots -/
def RX11 : String := "SafeCode$Slots"
def TX11 : u_T := fun k => match k with
  | 0 => ("SafeCode$Values", "kind", "[I", true)
  | 1 => ("SafeCode$Values", "low", "[I", true)
  | 2 => ("SafeCode$Values", "high", "[I", true)
  | 3 => ("SafeCode$Values", "sites", "[J", true)
  | 4 => ("SafeCode$Slots", "copy", "[I", true)
  | 5 => ("SafeCode$Slots", "less", "[I", true)
  | 6 => ("SafeCode$Slots", "under", "[I", true)
  | _ => ("SafeCode$Slots", "size", "[I", true)
def tyX11 : Nat → FieldType := fun k => match k with
  | 0 => .array .int
  | 1 => .array .int
  | 2 => .array .int
  | 3 => .array .long
  | 4 => .array .int
  | 5 => .array .int
  | 6 => .array .int
  | _ => .array .int
abbrev wsX110 : List Cond := u_ws RX11 TX11 8
theorem nmX11 : ∀ a, a < 8 → ∀ b, b < 8 → a ≠ b → (TX11 a).2.1 ≠ (TX11 b).2.1 := by decide +kernel
theorem tyX11_ok : ∀ k, k < 8 → parseFieldDescriptor (TX11 k).2.2.1 = some (tyX11 k) := by decide +kernel
abbrev cX11_init : ByteArray := prog_10_method_1_code
def yX11_init : MethodName := ⟨RX11, "<init>", "(I)V"⟩
abbrev cX11_plain : ByteArray := prog_10_method_2_code
def yX11_plain : MethodName := ⟨RX11, "plain", "(I)V"⟩
abbrev cX11_put : ByteArray := prog_10_method_3_code
def yX11_put : MethodName := ⟨RX11, "put", "(ILSafeCode$Slots;I)V"⟩
abbrev cX11_join : ByteArray := prog_10_method_4_code
def yX11_join : MethodName := ⟨RX11, "join", "(ILSafeCode$Slots;I)Z"⟩
abbrev cX11_forget : ByteArray := prog_10_method_5_code
def yX11_forget : MethodName := ⟨RX11, "forget", "(II)V"⟩
theorem q262 : (Jvm.Cond.initialized "SafeCode$Slots") ∈ lw_all := lw_g (lw_at lw_m1 16 rfl) rfl
theorem q573 : (Jvm.Cond.instantiable "SafeCode$Slots" (8 : Nat)) ∈ lw_all := lw_g (lw_at lw_m2 87 rfl) rfl
theorem q575 : (Jvm.Cond.instanceMethod ({ cls := "SafeCode$Slots", name := "<init>", desc := "(I)V" } : Jvm.MethodName)) ∈ lw_all := lw_g (lw_at lw_m2 89 rfl) rfl
theorem q576 : (Jvm.Cond.code ({ cls := "SafeCode$Slots", name := "<init>", desc := "(I)V" } : Jvm.MethodName) prog_10_method_1_code (2 : Nat) (Option.none : Option Jvm.ClassFile.FieldType)) ∈ lw_all := lw_g (lw_at lw_m2 90 rfl) rfl
theorem q577 : (Jvm.Cond.methodLink "SafeCode$Slots" (3 : Nat) ({ cls := "SafeCode$Values", name := "<init>", desc := "(I)V" } : Jvm.MethodName)) ∈ lw_all := lw_g (lw_at lw_m2 91 rfl) rfl
theorem q581 : (Jvm.Cond.fieldLink "SafeCode$Slots" (9 : Nat) "SafeCode$Slots" "copy" "[I") ∈ lw_all := lw_g (lw_at lw_m2 95 rfl) rfl
theorem q584 : (Jvm.Cond.fieldLink "SafeCode$Slots" (15 : Nat) "SafeCode$Slots" "less" "[I") ∈ lw_all := lw_g (lw_at lw_m2 98 rfl) rfl
theorem q587 : (Jvm.Cond.fieldLink "SafeCode$Slots" (18 : Nat) "SafeCode$Slots" "under" "[I") ∈ lw_all := lw_g (lw_at lw_m2 101 rfl) rfl
theorem q590 : (Jvm.Cond.fieldLink "SafeCode$Slots" (21 : Nat) "SafeCode$Slots" "size" "[I") ∈ lw_all := lw_g (lw_at lw_m2 104 rfl) rfl
theorem q594 : (Jvm.Cond.fieldLink "SafeCode$Slots" (32 : Nat) "SafeCode$Slots" "kind" "[I") ∈ lw_all := lw_g (lw_at lw_m2 108 rfl) rfl
theorem q595 : (Jvm.Cond.sameField "SafeCode$Slots" "SafeCode$Values" "kind" "[I") ∈ lw_all := lw_g (lw_at lw_m2 109 rfl) rfl
theorem q599 : (Jvm.Cond.sameField "SafeCode$Slots" "SafeCode$Values" "low" "[I") ∈ lw_all := lw_g (lw_at lw_m2 113 rfl) rfl
theorem q606 : (Jvm.Cond.sameField "SafeCode$Slots" "SafeCode$Values" "high" "[I") ∈ lw_all := lw_g (lw_at lw_m2 120 rfl) rfl
theorem q613 : (Jvm.Cond.sameField "SafeCode$Slots" "SafeCode$Values" "sites" "[J") ∈ lw_all := lw_g (lw_at lw_m2 127 rfl) rfl
theorem q615 : (Jvm.Cond.laysFinal "SafeCode$Slots" "SafeCode$Slots" "copy" "[I") ∈ lw_all := lw_g (lw_at lw_m2 129 rfl) rfl
theorem q616 : (Jvm.Cond.soleField "SafeCode$Slots" "copy") ∈ lw_all := lw_g (lw_at lw_m2 130 rfl) rfl
theorem q617 : (Jvm.Cond.laysFinal "SafeCode$Slots" "SafeCode$Slots" "less" "[I") ∈ lw_all := lw_g (lw_at lw_m2 131 rfl) rfl
theorem q618 : (Jvm.Cond.soleField "SafeCode$Slots" "less") ∈ lw_all := lw_g (lw_at lw_m2 132 rfl) rfl
theorem q619 : (Jvm.Cond.laysFinal "SafeCode$Slots" "SafeCode$Slots" "under" "[I") ∈ lw_all := lw_g (lw_at lw_m2 133 rfl) rfl
theorem q620 : (Jvm.Cond.soleField "SafeCode$Slots" "under") ∈ lw_all := lw_g (lw_at lw_m2 134 rfl) rfl
theorem q621 : (Jvm.Cond.laysFinal "SafeCode$Slots" "SafeCode$Slots" "size" "[I") ∈ lw_all := lw_g (lw_at lw_m2 135 rfl) rfl
theorem q622 : (Jvm.Cond.soleField "SafeCode$Slots" "size") ∈ lw_all := lw_g (lw_at lw_m2 136 rfl) rfl
theorem q623 : (Jvm.Cond.laysFinal "SafeCode$Slots" "SafeCode$Values" "kind" "[I") ∈ lw_all := lw_g (lw_at lw_m2 137 rfl) rfl
theorem q625 : (Jvm.Cond.laysFinal "SafeCode$Slots" "SafeCode$Values" "low" "[I") ∈ lw_all := lw_g (lw_at lw_m2 139 rfl) rfl
theorem q627 : (Jvm.Cond.laysFinal "SafeCode$Slots" "SafeCode$Values" "high" "[I") ∈ lw_all := lw_g (lw_at lw_m2 141 rfl) rfl
theorem q629 : (Jvm.Cond.laysFinal "SafeCode$Slots" "SafeCode$Values" "sites" "[J") ∈ lw_all := lw_g (lw_at lw_m2 143 rfl) rfl
theorem q631 : (Jvm.Cond.superclass "SafeCode$Slots" "SafeCode$Values") ∈ lw_all := lw_g (lw_at lw_m2 145 rfl) rfl
theorem q1573 : (Jvm.Cond.sameMethod "SafeCode$Slots" "SafeCode$Values" "unset" "(I)V") ∈ lw_all := lw_g (lw_at lw_m6 127 rfl) rfl
theorem q1575 : (Jvm.Cond.selects "SafeCode$Slots" ({ cls := "SafeCode$Slots", name := "unset", desc := "(I)V" } : Jvm.MethodName) ({ cls := "SafeCode$Values", name := "unset", desc := "(I)V" } : Jvm.MethodName)) ∈ lw_all := lw_g (lw_at lw_m6 129 rfl) rfl
theorem q1579 : (Jvm.Cond.instanceMethod ({ cls := "SafeCode$Slots", name := "plain", desc := "(I)V" } : Jvm.MethodName)) ∈ lw_all := lw_g (lw_at lw_m6 133 rfl) rfl
theorem q1580 : (Jvm.Cond.selects "SafeCode$Slots" ({ cls := "SafeCode$Slots", name := "plain", desc := "(I)V" } : Jvm.MethodName) ({ cls := "SafeCode$Slots", name := "plain", desc := "(I)V" } : Jvm.MethodName)) ∈ lw_all := lw_g (lw_at lw_m6 134 rfl) rfl
theorem q1581 : (Jvm.Cond.code ({ cls := "SafeCode$Slots", name := "plain", desc := "(I)V" } : Jvm.MethodName) prog_10_method_2_code (2 : Nat) (Option.none : Option Jvm.ClassFile.FieldType)) ∈ lw_all := lw_g (lw_at lw_m6 135 rfl) rfl
theorem q1583 : (Jvm.Cond.sameMethod "SafeCode$Slots" "SafeCode$Values" "putValue" "(ILSafeCode$Values;I)V") ∈ lw_all := lw_g (lw_at lw_m6 137 rfl) rfl
theorem q1585 : (Jvm.Cond.selects "SafeCode$Slots" ({ cls := "SafeCode$Slots", name := "putValue", desc := "(ILSafeCode$Values;I)V" } : Jvm.MethodName) ({ cls := "SafeCode$Values", name := "putValue", desc := "(ILSafeCode$Values;I)V" } : Jvm.MethodName)) ∈ lw_all := lw_g (lw_at lw_m6 139 rfl) rfl
theorem q1593 : (Jvm.Cond.instanceMethod ({ cls := "SafeCode$Slots", name := "put", desc := "(ILSafeCode$Slots;I)V" } : Jvm.MethodName)) ∈ lw_all := lw_g (lw_at lw_m6 147 rfl) rfl
theorem q1594 : (Jvm.Cond.selects "SafeCode$Slots" ({ cls := "SafeCode$Slots", name := "put", desc := "(ILSafeCode$Slots;I)V" } : Jvm.MethodName) ({ cls := "SafeCode$Slots", name := "put", desc := "(ILSafeCode$Slots;I)V" } : Jvm.MethodName)) ∈ lw_all := lw_g (lw_at lw_m6 148 rfl) rfl
theorem q1595 : (Jvm.Cond.code ({ cls := "SafeCode$Slots", name := "put", desc := "(ILSafeCode$Slots;I)V" } : Jvm.MethodName) prog_10_method_3_code (4 : Nat) (Option.none : Option Jvm.ClassFile.FieldType)) ∈ lw_all := lw_g (lw_at lw_m6 149 rfl) rfl
theorem q1596 : (Jvm.Cond.methodLink "SafeCode$Slots" (24 : Nat) ({ cls := "SafeCode$Slots", name := "putValue", desc := "(ILSafeCode$Values;I)V" } : Jvm.MethodName)) ∈ lw_all := lw_g (lw_at lw_m6 150 rfl) rfl
theorem q1598 : (Jvm.Cond.instanceMethod ({ cls := "SafeCode$Slots", name := "join", desc := "(ILSafeCode$Slots;I)Z" } : Jvm.MethodName)) ∈ lw_all := lw_g (lw_at lw_m6 152 rfl) rfl
theorem q1599 : (Jvm.Cond.selects "SafeCode$Slots" ({ cls := "SafeCode$Slots", name := "join", desc := "(ILSafeCode$Slots;I)Z" } : Jvm.MethodName) ({ cls := "SafeCode$Slots", name := "join", desc := "(ILSafeCode$Slots;I)Z" } : Jvm.MethodName)) ∈ lw_all := lw_g (lw_at lw_m6 153 rfl) rfl
theorem q1600 : (Jvm.Cond.code ({ cls := "SafeCode$Slots", name := "join", desc := "(ILSafeCode$Slots;I)Z" } : Jvm.MethodName) prog_10_method_4_code (9 : Nat) (Option.some Jvm.ClassFile.FieldType.boolean)) ∈ lw_all := lw_g (lw_at lw_m6 154 rfl) rfl
theorem q1601 : (Jvm.Cond.methodLink "SafeCode$Slots" (28 : Nat) ({ cls := "SafeCode$Slots", name := "joinValue", desc := "(ILSafeCode$Values;I)Z" } : Jvm.MethodName)) ∈ lw_all := lw_g (lw_at lw_m6 155 rfl) rfl
theorem q1602 : (Jvm.Cond.sameMethod "SafeCode$Slots" "SafeCode$Values" "joinValue" "(ILSafeCode$Values;I)Z") ∈ lw_all := lw_g (lw_at lw_m6 156 rfl) rfl
theorem q1604 : (Jvm.Cond.selects "SafeCode$Slots" ({ cls := "SafeCode$Slots", name := "joinValue", desc := "(ILSafeCode$Values;I)Z" } : Jvm.MethodName) ({ cls := "SafeCode$Values", name := "joinValue", desc := "(ILSafeCode$Values;I)Z" } : Jvm.MethodName)) ∈ lw_all := lw_g (lw_at lw_m6 158 rfl) rfl
theorem q1612 : (Jvm.Cond.methodLink "SafeCode$Slots" (35 : Nat) ({ cls := "SafeCode$Slots", name := "plain", desc := "(I)V" } : Jvm.MethodName)) ∈ lw_all := lw_g (lw_at lw_m6 166 rfl) rfl
theorem q1710 : (Jvm.Cond.sameMethod "SafeCode$Slots" "SafeCode$Values" "putRange" "(III)V") ∈ lw_all := lw_g (lw_at lw_m7 24 rfl) rfl
theorem q1712 : (Jvm.Cond.selects "SafeCode$Slots" ({ cls := "SafeCode$Slots", name := "putRange", desc := "(III)V" } : Jvm.MethodName) ({ cls := "SafeCode$Values", name := "putRange", desc := "(III)V" } : Jvm.MethodName)) ∈ lw_all := lw_g (lw_at lw_m7 26 rfl) rfl
theorem q1766 : (Jvm.Cond.sameMethod "SafeCode$Slots" "SafeCode$Values" "putSites" "(IJ)V") ∈ lw_all := lw_g (lw_at lw_m7 80 rfl) rfl
theorem q1768 : (Jvm.Cond.selects "SafeCode$Slots" ({ cls := "SafeCode$Slots", name := "putSites", desc := "(IJ)V" } : Jvm.MethodName) ({ cls := "SafeCode$Values", name := "putSites", desc := "(IJ)V" } : Jvm.MethodName)) ∈ lw_all := lw_g (lw_at lw_m7 82 rfl) rfl
theorem q1855 : (Jvm.Cond.instanceMethod ({ cls := "SafeCode$Slots", name := "forget", desc := "(II)V" } : Jvm.MethodName)) ∈ lw_all := lw_g (lw_at lw_m7 169 rfl) rfl
theorem q1856 : (Jvm.Cond.selects "SafeCode$Slots" ({ cls := "SafeCode$Slots", name := "forget", desc := "(II)V" } : Jvm.MethodName) ({ cls := "SafeCode$Slots", name := "forget", desc := "(II)V" } : Jvm.MethodName)) ∈ lw_all := lw_g (lw_at lw_m7 170 rfl) rfl
theorem q1857 : (Jvm.Cond.code ({ cls := "SafeCode$Slots", name := "forget", desc := "(II)V" } : Jvm.MethodName) prog_10_method_5_code (5 : Nat) (Option.none : Option Jvm.ClassFile.FieldType)) ∈ lw_all := lw_g (lw_at lw_m7 171 rfl) rfl
theorem q3158 : (Jvm.Cond.selects "SafeCode$Slots" ({ cls := "SafeCode$Values", name := "unset", desc := "(I)V" } : Jvm.MethodName) ({ cls := "SafeCode$Values", name := "unset", desc := "(I)V" } : Jvm.MethodName)) ∈ lw_all := lw_g (lw_at lw_m13 32 rfl) rfl
theorem in_X11 : ∀ w ∈ wsX110, w ∈ lw_all := lw_in wsX110 [623, 625, 627, 629, 615, 617, 619, 621] (by decide +kernel) (by decide +kernel)
/-! SafeCode$Unknowns -/
def RX12 : String := "SafeCode$Unknowns"
def TX12 : u_T := fun k => match k with
  | 0 => ("SafeCode$Values", "kind", "[I", true)
  | 1 => ("SafeCode$Values", "low", "[I", true)
  | 2 => ("SafeCode$Values", "high", "[I", true)
  | 3 => ("SafeCode$Values", "sites", "[J", true)
  | _ => ("SafeCode$Unknowns", "there", "[Z", true)
def tyX12 : Nat → FieldType := fun k => match k with
  | 0 => .array .int
  | 1 => .array .int
  | 2 => .array .int
  | 3 => .array .long
  | _ => .array .boolean
abbrev wsX120 : List Cond := u_ws RX12 TX12 5
theorem nmX12 : ∀ a, a < 5 → ∀ b, b < 5 → a ≠ b → (TX12 a).2.1 ≠ (TX12 b).2.1 := by decide +kernel
theorem tyX12_ok : ∀ k, k < 5 → parseFieldDescriptor (TX12 k).2.2.1 = some (tyX12 k) := by decide +kernel
abbrev cX12_init : ByteArray := prog_14_method_1_code
def yX12_init : MethodName := ⟨RX12, "<init>", "(I)V"⟩
abbrev cX12_clear : ByteArray := prog_14_method_2_code
def yX12_clear : MethodName := ⟨RX12, "clear", "()V"⟩
abbrev cX12_add : ByteArray := prog_14_method_3_code
def yX12_add : MethodName := ⟨RX12, "add", "(ILSafeCode$Values;I)Z"⟩
theorem q263 : (Jvm.Cond.initialized "SafeCode$Unknowns") ∈ lw_all := lw_g (lw_at lw_m1 17 rfl) rfl
theorem q601 : (Jvm.Cond.sameField "SafeCode$Unknowns" "SafeCode$Values" "low" "[I") ∈ lw_all := lw_g (lw_at lw_m2 115 rfl) rfl
theorem q608 : (Jvm.Cond.sameField "SafeCode$Unknowns" "SafeCode$Values" "high" "[I") ∈ lw_all := lw_g (lw_at lw_m2 122 rfl) rfl
theorem q634 : (Jvm.Cond.instantiable "SafeCode$Unknowns" (5 : Nat)) ∈ lw_all := lw_g (lw_at lw_m2 148 rfl) rfl
theorem q636 : (Jvm.Cond.instanceMethod ({ cls := "SafeCode$Unknowns", name := "<init>", desc := "(I)V" } : Jvm.MethodName)) ∈ lw_all := lw_g (lw_at lw_m2 150 rfl) rfl
theorem q637 : (Jvm.Cond.code ({ cls := "SafeCode$Unknowns", name := "<init>", desc := "(I)V" } : Jvm.MethodName) prog_14_method_1_code (2 : Nat) (Option.none : Option Jvm.ClassFile.FieldType)) ∈ lw_all := lw_g (lw_at lw_m2 151 rfl) rfl
theorem q638 : (Jvm.Cond.methodLink "SafeCode$Unknowns" (1 : Nat) ({ cls := "SafeCode$Values", name := "<init>", desc := "(I)V" } : Jvm.MethodName)) ∈ lw_all := lw_g (lw_at lw_m2 152 rfl) rfl
theorem q639 : (Jvm.Cond.fieldLink "SafeCode$Unknowns" (7 : Nat) "SafeCode$Unknowns" "there" "[Z") ∈ lw_all := lw_g (lw_at lw_m2 153 rfl) rfl
theorem q642 : (Jvm.Cond.laysFinal "SafeCode$Unknowns" "SafeCode$Unknowns" "there" "[Z") ∈ lw_all := lw_g (lw_at lw_m2 156 rfl) rfl
theorem q643 : (Jvm.Cond.soleField "SafeCode$Unknowns" "there") ∈ lw_all := lw_g (lw_at lw_m2 157 rfl) rfl
theorem q644 : (Jvm.Cond.laysFinal "SafeCode$Unknowns" "SafeCode$Values" "kind" "[I") ∈ lw_all := lw_g (lw_at lw_m2 158 rfl) rfl
theorem q645 : (Jvm.Cond.laysFinal "SafeCode$Unknowns" "SafeCode$Values" "low" "[I") ∈ lw_all := lw_g (lw_at lw_m2 159 rfl) rfl
theorem q646 : (Jvm.Cond.laysFinal "SafeCode$Unknowns" "SafeCode$Values" "high" "[I") ∈ lw_all := lw_g (lw_at lw_m2 160 rfl) rfl
theorem q647 : (Jvm.Cond.laysFinal "SafeCode$Unknowns" "SafeCode$Values" "sites" "[J") ∈ lw_all := lw_g (lw_at lw_m2 161 rfl) rfl
theorem q648 : (Jvm.Cond.superclass "SafeCode$Unknowns" "SafeCode$Values") ∈ lw_all := lw_g (lw_at lw_m2 162 rfl) rfl
theorem q1560 : (Jvm.Cond.instanceMethod ({ cls := "SafeCode$Unknowns", name := "clear", desc := "()V" } : Jvm.MethodName)) ∈ lw_all := lw_g (lw_at lw_m6 114 rfl) rfl
theorem q1561 : (Jvm.Cond.selects "SafeCode$Unknowns" ({ cls := "SafeCode$Unknowns", name := "clear", desc := "()V" } : Jvm.MethodName) ({ cls := "SafeCode$Unknowns", name := "clear", desc := "()V" } : Jvm.MethodName)) ∈ lw_all := lw_g (lw_at lw_m6 115 rfl) rfl
theorem q1562 : (Jvm.Cond.code ({ cls := "SafeCode$Unknowns", name := "clear", desc := "()V" } : Jvm.MethodName) prog_14_method_2_code (2 : Nat) (Option.none : Option Jvm.ClassFile.FieldType)) ∈ lw_all := lw_g (lw_at lw_m6 116 rfl) rfl
theorem q1772 : (Jvm.Cond.instanceMethod ({ cls := "SafeCode$Unknowns", name := "add", desc := "(ILSafeCode$Values;I)Z" } : Jvm.MethodName)) ∈ lw_all := lw_g (lw_at lw_m7 86 rfl) rfl
theorem q1773 : (Jvm.Cond.selects "SafeCode$Unknowns" ({ cls := "SafeCode$Unknowns", name := "add", desc := "(ILSafeCode$Values;I)Z" } : Jvm.MethodName) ({ cls := "SafeCode$Unknowns", name := "add", desc := "(ILSafeCode$Values;I)Z" } : Jvm.MethodName)) ∈ lw_all := lw_g (lw_at lw_m7 87 rfl) rfl
theorem q1774 : (Jvm.Cond.code ({ cls := "SafeCode$Unknowns", name := "add", desc := "(ILSafeCode$Values;I)Z" } : Jvm.MethodName) prog_14_method_3_code (4 : Nat) (Option.some Jvm.ClassFile.FieldType.boolean)) ∈ lw_all := lw_g (lw_at lw_m7 88 rfl) rfl
theorem q1775 : (Jvm.Cond.methodLink "SafeCode$Unknowns" (13 : Nat) ({ cls := "SafeCode$Unknowns", name := "joinValue", desc := "(ILSafeCode$Values;I)Z" } : Jvm.MethodName)) ∈ lw_all := lw_g (lw_at lw_m7 89 rfl) rfl
theorem q1776 : (Jvm.Cond.sameMethod "SafeCode$Unknowns" "SafeCode$Values" "joinValue" "(ILSafeCode$Values;I)Z") ∈ lw_all := lw_g (lw_at lw_m7 90 rfl) rfl
theorem q1777 : (Jvm.Cond.selects "SafeCode$Unknowns" ({ cls := "SafeCode$Unknowns", name := "joinValue", desc := "(ILSafeCode$Values;I)Z" } : Jvm.MethodName) ({ cls := "SafeCode$Values", name := "joinValue", desc := "(ILSafeCode$Values;I)Z" } : Jvm.MethodName)) ∈ lw_all := lw_g (lw_at lw_m7 91 rfl) rfl
theorem q1778 : (Jvm.Cond.methodLink "SafeCode$Unknowns" (17 : Nat) ({ cls := "SafeCode$Unknowns", name := "putValue", desc := "(ILSafeCode$Values;I)V" } : Jvm.MethodName)) ∈ lw_all := lw_g (lw_at lw_m7 92 rfl) rfl
theorem q1779 : (Jvm.Cond.sameMethod "SafeCode$Unknowns" "SafeCode$Values" "putValue" "(ILSafeCode$Values;I)V") ∈ lw_all := lw_g (lw_at lw_m7 93 rfl) rfl
theorem q1780 : (Jvm.Cond.selects "SafeCode$Unknowns" ({ cls := "SafeCode$Unknowns", name := "putValue", desc := "(ILSafeCode$Values;I)V" } : Jvm.MethodName) ({ cls := "SafeCode$Values", name := "putValue", desc := "(ILSafeCode$Values;I)V" } : Jvm.MethodName)) ∈ lw_all := lw_g (lw_at lw_m7 94 rfl) rfl
theorem q3159 : (Jvm.Cond.selects "SafeCode$Unknowns" ({ cls := "SafeCode$Values", name := "unset", desc := "(I)V" } : Jvm.MethodName) ({ cls := "SafeCode$Values", name := "unset", desc := "(I)V" } : Jvm.MethodName)) ∈ lw_all := lw_g (lw_at lw_m13 33 rfl) rfl
theorem in_X12 : ∀ w ∈ wsX120, w ∈ lw_all := lw_in wsX120 [644, 645, 646, 647, 642] (by decide +kernel) (by decide +kernel)
/-! SafeCode$Machine -/
def RX13 : String := "SafeCode$Machine"
def TX13 : u_T := fun k => match k with
  | 0 => ("SafeCode$Machine", "p", "LSafeCode$Program;", false)
  | 1 => ("SafeCode$Machine", "sites", "[I", true)
  | 2 => ("SafeCode$Machine", "starts", "[I", true)
  | 3 => ("SafeCode$Machine", "lengths", "[I", true)
  | 4 => ("SafeCode$Machine", "cells", "[I", true)
  | 5 => ("SafeCode$Machine", "objects", "I", false)
  | 6 => ("SafeCode$Machine", "used", "I", false)
  | 7 => ("SafeCode$Machine", "slots", "[I", true)
  | 8 => ("SafeCode$Machine", "at", "[I", true)
  | 9 => ("SafeCode$Machine", "heights", "[I", true)
  | 10 => ("SafeCode$Machine", "frame", "I", false)
  | 11 => ("SafeCode$Machine", "input", "[I", false)
  | 12 => ("SafeCode$Machine", "inputs", "I", false)
  | 13 => ("SafeCode$Machine", "taken", "I", false)
  | 14 => ("SafeCode$Machine", "out", "[I", true)
  | 15 => ("SafeCode$Machine", "written", "I", false)
  | 16 => ("SafeCode$Machine", "steps", "I", false)
  | 17 => ("SafeCode$Machine", "place", "I", false)
  | 18 => ("SafeCode$Machine", "thrown", "I", false)
  | _ => ("SafeCode$Machine", "outcome", "I", false)
def tyX13 : Nat → FieldType := fun k => match k with
  | 0 => .object "SafeCode$Program"
  | 1 => .array .int
  | 2 => .array .int
  | 3 => .array .int
  | 4 => .array .int
  | 5 => .int
  | 6 => .int
  | 7 => .array .int
  | 8 => .array .int
  | 9 => .array .int
  | 10 => .int
  | 11 => .array .int
  | 12 => .int
  | 13 => .int
  | 14 => .array .int
  | 15 => .int
  | 16 => .int
  | 17 => .int
  | 18 => .int
  | _ => .int
abbrev wsX130 : List Cond := u_ws RX13 TX13 20
theorem nmX13 : ∀ a, a < 20 → ∀ b, b < 20 → a ≠ b → (TX13 a).2.1 ≠ (TX13 b).2.1 := by decide +kernel
theorem tyX13_ok : ∀ k, k < 20 → parseFieldDescriptor (TX13 k).2.2.1 = some (tyX13 k) := by decide +kernel
abbrev cX13_init : ByteArray := prog_8_method_1_code
def yX13_init : MethodName := ⟨RX13, "<init>", "()V"⟩
abbrev cX13_run : ByteArray := prog_8_method_2_code
def yX13_run : MethodName := ⟨RX13, "run", "(LSafeCode$Program;[III)I"⟩
abbrev cX13_enter : ByteArray := prog_8_method_3_code
def yX13_enter : MethodName := ⟨RX13, "enter", "(I)V"⟩
abbrev cX13_step : ByteArray := prog_8_method_11_code
def yX13_step : MethodName := ⟨RX13, "step", "(I)V"⟩
abbrev cX13_compute : ByteArray := prog_8_method_13_code
def yX13_compute : MethodName := ⟨RX13, "compute", "(I)V"⟩
abbrev cX13_pop : ByteArray := prog_8_method_5_code
def yX13_pop : MethodName := ⟨RX13, "pop", "()I"⟩
abbrev cX13_push : ByteArray := prog_8_method_4_code
def yX13_push : MethodName := ⟨RX13, "push", "(I)V"⟩
abbrev cX13_raise : ByteArray := prog_8_method_9_code
def yX13_raise : MethodName := ⟨RX13, "raise", "(I)V"⟩
abbrev cX13_make : ByteArray := prog_8_method_7_code
def yX13_make : MethodName := ⟨RX13, "make", "(II)I"⟩
abbrev cX13_unwind : ByteArray := prog_8_method_10_code
def yX13_unwind : MethodName := ⟨RX13, "unwind", "(I)V"⟩
abbrev cX13_made : ByteArray := prog_8_method_14_code
def yX13_made : MethodName := ⟨RX13, "made", "(III)I"⟩
abbrev cX13_jump : ByteArray := prog_8_method_15_code
def yX13_jump : MethodName := ⟨RX13, "jump", "(II)V"⟩
abbrev cX13_heap : ByteArray := prog_8_method_16_code
def yX13_heap : MethodName := ⟨RX13, "heap", "(II)V"⟩
abbrev cX13_give : ByteArray := prog_8_method_17_code
def yX13_give : MethodName := ⟨RX13, "give", "(I)Z"⟩
abbrev cX13_makeArray : ByteArray := prog_8_method_19_code
def yX13_makeArray : MethodName := ⟨RX13, "makeArray", "(II)Z"⟩
abbrev cX13_wrong : ByteArray := prog_8_method_18_code
def yX13_wrong : MethodName := ⟨RX13, "wrong", "(I)Z"⟩
abbrev cX13_length : ByteArray := prog_8_method_20_code
def yX13_length : MethodName := ⟨RX13, "length", "(I)Z"⟩
abbrev cX13_element : ByteArray := prog_8_method_21_code
def yX13_element : MethodName := ⟨RX13, "element", "(I)Z"⟩
abbrev cX13_isOf : ByteArray := prog_8_method_8_code
def yX13_isOf : MethodName := ⟨RX13, "isOf", "(II)Z"⟩
abbrev cX13_field : ByteArray := prog_8_method_22_code
def yX13_field : MethodName := ⟨RX13, "field", "(II)Z"⟩
abbrev cX13_cast : ByteArray := prog_8_method_23_code
def yX13_cast : MethodName := ⟨RX13, "cast", "(II)Z"⟩
abbrev cX13_call : ByteArray := prog_8_method_24_code
def yX13_call : MethodName := ⟨RX13, "call", "(II)V"⟩
abbrev cX13_local : ByteArray := prog_8_method_6_code
def yX13_local : MethodName := ⟨RX13, "local", "(I)I"⟩
abbrev cX13_leave : ByteArray := prog_8_method_25_code
def yX13_leave : MethodName := ⟨RX13, "leave", "(I)V"⟩
abbrev cX13_simple : ByteArray := prog_8_method_12_code
def yX13_simple : MethodName := ⟨RX13, "simple", "(II)V"⟩
theorem q264 : (Jvm.Cond.initialized "SafeCode$Machine") ∈ lw_all := lw_g (lw_at lw_m1 18 rfl) rfl
theorem q732 : (Jvm.Cond.instantiable "SafeCode$Machine" (20 : Nat)) ∈ lw_all := lw_g (lw_at lw_m3 6 rfl) rfl
theorem q734 : (Jvm.Cond.instanceMethod ({ cls := "SafeCode$Machine", name := "<init>", desc := "()V" } : Jvm.MethodName)) ∈ lw_all := lw_g (lw_at lw_m3 8 rfl) rfl
theorem q735 : (Jvm.Cond.code ({ cls := "SafeCode$Machine", name := "<init>", desc := "()V" } : Jvm.MethodName) prog_8_method_1_code (1 : Nat) (Option.none : Option Jvm.ClassFile.FieldType)) ∈ lw_all := lw_g (lw_at lw_m3 9 rfl) rfl
theorem q736 : (Jvm.Cond.methodLink "SafeCode$Machine" (3 : Nat) ({ cls := "java/lang/Object", name := "<init>", desc := "()V" } : Jvm.MethodName)) ∈ lw_all := lw_g (lw_at lw_m3 10 rfl) rfl
theorem q737 : (Jvm.Cond.fieldLink "SafeCode$Machine" (36 : Nat) "SafeCode$Machine" "p" "LSafeCode$Program;") ∈ lw_all := lw_g (lw_at lw_m3 11 rfl) rfl
theorem q738 : (Jvm.Cond.fieldLink "SafeCode$Machine" (11 : Nat) "SafeCode$Machine" "sites" "[I") ∈ lw_all := lw_g (lw_at lw_m3 12 rfl) rfl
theorem q739 : (Jvm.Cond.fieldLink "SafeCode$Machine" (15 : Nat) "SafeCode$Machine" "starts" "[I") ∈ lw_all := lw_g (lw_at lw_m3 13 rfl) rfl
theorem q740 : (Jvm.Cond.fieldLink "SafeCode$Machine" (18 : Nat) "SafeCode$Machine" "lengths" "[I") ∈ lw_all := lw_g (lw_at lw_m3 14 rfl) rfl
theorem q741 : (Jvm.Cond.fieldLink "SafeCode$Machine" (21 : Nat) "SafeCode$Machine" "cells" "[I") ∈ lw_all := lw_g (lw_at lw_m3 15 rfl) rfl
theorem q742 : (Jvm.Cond.fieldLink "SafeCode$Machine" (59 : Nat) "SafeCode$Machine" "objects" "I") ∈ lw_all := lw_g (lw_at lw_m3 16 rfl) rfl
theorem q743 : (Jvm.Cond.fieldLink "SafeCode$Machine" (62 : Nat) "SafeCode$Machine" "used" "I") ∈ lw_all := lw_g (lw_at lw_m3 17 rfl) rfl
theorem q744 : (Jvm.Cond.fieldLink "SafeCode$Machine" (24 : Nat) "SafeCode$Machine" "slots" "[I") ∈ lw_all := lw_g (lw_at lw_m3 18 rfl) rfl
theorem q745 : (Jvm.Cond.fieldLink "SafeCode$Machine" (27 : Nat) "SafeCode$Machine" "at" "[I") ∈ lw_all := lw_g (lw_at lw_m3 19 rfl) rfl
theorem q746 : (Jvm.Cond.fieldLink "SafeCode$Machine" (30 : Nat) "SafeCode$Machine" "heights" "[I") ∈ lw_all := lw_g (lw_at lw_m3 20 rfl) rfl
theorem q747 : (Jvm.Cond.fieldLink "SafeCode$Machine" (65 : Nat) "SafeCode$Machine" "frame" "I") ∈ lw_all := lw_g (lw_at lw_m3 21 rfl) rfl
theorem q748 : (Jvm.Cond.fieldLink "SafeCode$Machine" (40 : Nat) "SafeCode$Machine" "input" "[I") ∈ lw_all := lw_g (lw_at lw_m3 22 rfl) rfl
theorem q749 : (Jvm.Cond.fieldLink "SafeCode$Machine" (43 : Nat) "SafeCode$Machine" "inputs" "I") ∈ lw_all := lw_g (lw_at lw_m3 23 rfl) rfl
theorem q750 : (Jvm.Cond.fieldLink "SafeCode$Machine" (47 : Nat) "SafeCode$Machine" "taken" "I") ∈ lw_all := lw_g (lw_at lw_m3 24 rfl) rfl
theorem q751 : (Jvm.Cond.fieldLink "SafeCode$Machine" (33 : Nat) "SafeCode$Machine" "out" "[I") ∈ lw_all := lw_g (lw_at lw_m3 25 rfl) rfl
theorem q753 : (Jvm.Cond.fieldLink "SafeCode$Machine" (50 : Nat) "SafeCode$Machine" "written" "I") ∈ lw_all := lw_g (lw_at lw_m3 27 rfl) rfl
theorem q755 : (Jvm.Cond.fieldLink "SafeCode$Machine" (53 : Nat) "SafeCode$Machine" "steps" "I") ∈ lw_all := lw_g (lw_at lw_m3 29 rfl) rfl
theorem q757 : (Jvm.Cond.fieldLink "SafeCode$Machine" (80 : Nat) "SafeCode$Machine" "place" "I") ∈ lw_all := lw_g (lw_at lw_m3 31 rfl) rfl
theorem q759 : (Jvm.Cond.fieldLink "SafeCode$Machine" (56 : Nat) "SafeCode$Machine" "thrown" "I") ∈ lw_all := lw_g (lw_at lw_m3 33 rfl) rfl
theorem q761 : (Jvm.Cond.fieldLink "SafeCode$Machine" (68 : Nat) "SafeCode$Machine" "outcome" "I") ∈ lw_all := lw_g (lw_at lw_m3 35 rfl) rfl
theorem q762 : (Jvm.Cond.lays "SafeCode$Machine" "SafeCode$Machine" "p" "LSafeCode$Program;") ∈ lw_all := lw_g (lw_at lw_m3 36 rfl) rfl
theorem q763 : (Jvm.Cond.soleField "SafeCode$Machine" "p") ∈ lw_all := lw_g (lw_at lw_m3 37 rfl) rfl
theorem q764 : (Jvm.Cond.laysFinal "SafeCode$Machine" "SafeCode$Machine" "sites" "[I") ∈ lw_all := lw_g (lw_at lw_m3 38 rfl) rfl
theorem q765 : (Jvm.Cond.soleField "SafeCode$Machine" "sites") ∈ lw_all := lw_g (lw_at lw_m3 39 rfl) rfl
theorem q766 : (Jvm.Cond.laysFinal "SafeCode$Machine" "SafeCode$Machine" "starts" "[I") ∈ lw_all := lw_g (lw_at lw_m3 40 rfl) rfl
theorem q767 : (Jvm.Cond.soleField "SafeCode$Machine" "starts") ∈ lw_all := lw_g (lw_at lw_m3 41 rfl) rfl
theorem q768 : (Jvm.Cond.laysFinal "SafeCode$Machine" "SafeCode$Machine" "lengths" "[I") ∈ lw_all := lw_g (lw_at lw_m3 42 rfl) rfl
theorem q769 : (Jvm.Cond.soleField "SafeCode$Machine" "lengths") ∈ lw_all := lw_g (lw_at lw_m3 43 rfl) rfl
theorem q770 : (Jvm.Cond.laysFinal "SafeCode$Machine" "SafeCode$Machine" "cells" "[I") ∈ lw_all := lw_g (lw_at lw_m3 44 rfl) rfl
theorem q771 : (Jvm.Cond.soleField "SafeCode$Machine" "cells") ∈ lw_all := lw_g (lw_at lw_m3 45 rfl) rfl
theorem q772 : (Jvm.Cond.lays "SafeCode$Machine" "SafeCode$Machine" "objects" "I") ∈ lw_all := lw_g (lw_at lw_m3 46 rfl) rfl
theorem q773 : (Jvm.Cond.soleField "SafeCode$Machine" "objects") ∈ lw_all := lw_g (lw_at lw_m3 47 rfl) rfl
theorem q774 : (Jvm.Cond.lays "SafeCode$Machine" "SafeCode$Machine" "used" "I") ∈ lw_all := lw_g (lw_at lw_m3 48 rfl) rfl
theorem q775 : (Jvm.Cond.soleField "SafeCode$Machine" "used") ∈ lw_all := lw_g (lw_at lw_m3 49 rfl) rfl
theorem q776 : (Jvm.Cond.laysFinal "SafeCode$Machine" "SafeCode$Machine" "slots" "[I") ∈ lw_all := lw_g (lw_at lw_m3 50 rfl) rfl
theorem q777 : (Jvm.Cond.soleField "SafeCode$Machine" "slots") ∈ lw_all := lw_g (lw_at lw_m3 51 rfl) rfl
theorem q778 : (Jvm.Cond.laysFinal "SafeCode$Machine" "SafeCode$Machine" "at" "[I") ∈ lw_all := lw_g (lw_at lw_m3 52 rfl) rfl
theorem q779 : (Jvm.Cond.soleField "SafeCode$Machine" "at") ∈ lw_all := lw_g (lw_at lw_m3 53 rfl) rfl
theorem q780 : (Jvm.Cond.laysFinal "SafeCode$Machine" "SafeCode$Machine" "heights" "[I") ∈ lw_all := lw_g (lw_at lw_m3 54 rfl) rfl
theorem q781 : (Jvm.Cond.soleField "SafeCode$Machine" "heights") ∈ lw_all := lw_g (lw_at lw_m3 55 rfl) rfl
theorem q782 : (Jvm.Cond.lays "SafeCode$Machine" "SafeCode$Machine" "frame" "I") ∈ lw_all := lw_g (lw_at lw_m3 56 rfl) rfl
theorem q783 : (Jvm.Cond.soleField "SafeCode$Machine" "frame") ∈ lw_all := lw_g (lw_at lw_m3 57 rfl) rfl
theorem q784 : (Jvm.Cond.lays "SafeCode$Machine" "SafeCode$Machine" "input" "[I") ∈ lw_all := lw_g (lw_at lw_m3 58 rfl) rfl
theorem q785 : (Jvm.Cond.soleField "SafeCode$Machine" "input") ∈ lw_all := lw_g (lw_at lw_m3 59 rfl) rfl
theorem q786 : (Jvm.Cond.lays "SafeCode$Machine" "SafeCode$Machine" "inputs" "I") ∈ lw_all := lw_g (lw_at lw_m3 60 rfl) rfl
theorem q787 : (Jvm.Cond.soleField "SafeCode$Machine" "inputs") ∈ lw_all := lw_g (lw_at lw_m3 61 rfl) rfl
theorem q788 : (Jvm.Cond.lays "SafeCode$Machine" "SafeCode$Machine" "taken" "I") ∈ lw_all := lw_g (lw_at lw_m3 62 rfl) rfl
theorem q789 : (Jvm.Cond.soleField "SafeCode$Machine" "taken") ∈ lw_all := lw_g (lw_at lw_m3 63 rfl) rfl
theorem q790 : (Jvm.Cond.laysFinal "SafeCode$Machine" "SafeCode$Machine" "out" "[I") ∈ lw_all := lw_g (lw_at lw_m3 64 rfl) rfl
theorem q791 : (Jvm.Cond.soleField "SafeCode$Machine" "out") ∈ lw_all := lw_g (lw_at lw_m3 65 rfl) rfl
theorem q792 : (Jvm.Cond.lays "SafeCode$Machine" "SafeCode$Machine" "written" "I") ∈ lw_all := lw_g (lw_at lw_m3 66 rfl) rfl
theorem q793 : (Jvm.Cond.soleField "SafeCode$Machine" "written") ∈ lw_all := lw_g (lw_at lw_m3 67 rfl) rfl
theorem q794 : (Jvm.Cond.lays "SafeCode$Machine" "SafeCode$Machine" "steps" "I") ∈ lw_all := lw_g (lw_at lw_m3 68 rfl) rfl
theorem q795 : (Jvm.Cond.soleField "SafeCode$Machine" "steps") ∈ lw_all := lw_g (lw_at lw_m3 69 rfl) rfl
theorem q796 : (Jvm.Cond.lays "SafeCode$Machine" "SafeCode$Machine" "place" "I") ∈ lw_all := lw_g (lw_at lw_m3 70 rfl) rfl
theorem q797 : (Jvm.Cond.soleField "SafeCode$Machine" "place") ∈ lw_all := lw_g (lw_at lw_m3 71 rfl) rfl
theorem q798 : (Jvm.Cond.lays "SafeCode$Machine" "SafeCode$Machine" "thrown" "I") ∈ lw_all := lw_g (lw_at lw_m3 72 rfl) rfl
theorem q799 : (Jvm.Cond.soleField "SafeCode$Machine" "thrown") ∈ lw_all := lw_g (lw_at lw_m3 73 rfl) rfl
theorem q800 : (Jvm.Cond.lays "SafeCode$Machine" "SafeCode$Machine" "outcome" "I") ∈ lw_all := lw_g (lw_at lw_m3 74 rfl) rfl
theorem q801 : (Jvm.Cond.soleField "SafeCode$Machine" "outcome") ∈ lw_all := lw_g (lw_at lw_m3 75 rfl) rfl
theorem q802 : (Jvm.Cond.superclass "SafeCode$Machine" "java/lang/Object") ∈ lw_all := lw_g (lw_at lw_m3 76 rfl) rfl
theorem q827 : (Jvm.Cond.fieldLink "SafeCode$Machine" (180 : Nat) "SafeCode$Program" "fieldPlace" "[I") ∈ lw_all := lw_g (lw_at lw_m3 101 rfl) rfl
theorem q830 : (Jvm.Cond.fieldLink "SafeCode$Machine" (164 : Nat) "SafeCode$Program" "fieldCount" "[I") ∈ lw_all := lw_g (lw_at lw_m3 104 rfl) rfl
theorem q846 : (Jvm.Cond.fieldLink "SafeCode$Machine" (197 : Nat) "SafeCode$Program" "parameters" "[I") ∈ lw_all := lw_g (lw_at lw_m3 120 rfl) rfl
theorem q858 : (Jvm.Cond.fieldLink "SafeCode$Machine" (86 : Nat) "SafeCode$Program" "first" "[I") ∈ lw_all := lw_g (lw_at lw_m3 132 rfl) rfl
theorem q871 : (Jvm.Cond.fieldLink "SafeCode$Machine" (121 : Nat) "SafeCode$Program" "operation" "[I") ∈ lw_all := lw_g (lw_at lw_m3 145 rfl) rfl
theorem q875 : (Jvm.Cond.fieldLink "SafeCode$Machine" (150 : Nat) "SafeCode$Program" "operand" "[I") ∈ lw_all := lw_g (lw_at lw_m3 149 rfl) rfl
theorem q880 : (Jvm.Cond.fieldLink "SafeCode$Machine" (153 : Nat) "SafeCode$Program" "number" "[I") ∈ lw_all := lw_g (lw_at lw_m3 154 rfl) rfl
theorem q900 : (Jvm.Cond.fieldLink "SafeCode$Machine" (89 : Nat) "SafeCode$Program" "siteType" "[I") ∈ lw_all := lw_g (lw_at lw_m3 174 rfl) rfl
theorem q905 : (Jvm.Cond.fieldLink "SafeCode$Machine" (103 : Nat) "SafeCode$Program" "catches" "I") ∈ lw_all := lw_g (lw_at lw_m3 179 rfl) rfl
theorem q910 : (Jvm.Cond.fieldLink "SafeCode$Machine" (106 : Nat) "SafeCode$Program" "catchFrom" "[I") ∈ lw_all := lw_g (lw_at lw_m3 184 rfl) rfl
theorem q915 : (Jvm.Cond.fieldLink "SafeCode$Machine" (109 : Nat) "SafeCode$Program" "catchTo" "[I") ∈ lw_all := lw_g (lw_at lw_m3 189 rfl) rfl
theorem q920 : (Jvm.Cond.fieldLink "SafeCode$Machine" (118 : Nat) "SafeCode$Program" "catchAt" "[I") ∈ lw_all := lw_g (lw_at lw_m3 194 rfl) rfl
theorem q925 : (Jvm.Cond.fieldLink "SafeCode$Machine" (112 : Nat) "SafeCode$Program" "catchClass" "[I") ∈ lw_all := lw_g (lw_at lw_m3 199 rfl) rfl
theorem q929 : (Jvm.Cond.fieldLink "SafeCode$Machine" (71 : Nat) "SafeCode$Program" "main" "I") ∈ lw_all := lw_g (lw_at lw_m3 203 rfl) rfl
theorem q1941 : (Jvm.Cond.instanceMethod ({ cls := "SafeCode$Machine", name := "run", desc := "(LSafeCode$Program;[III)I" } : Jvm.MethodName)) ∈ lw_all := lw_g (lw_at lw_m8 15 rfl) rfl
theorem q1942 : (Jvm.Cond.selects "SafeCode$Machine" ({ cls := "SafeCode$Machine", name := "run", desc := "(LSafeCode$Program;[III)I" } : Jvm.MethodName) ({ cls := "SafeCode$Machine", name := "run", desc := "(LSafeCode$Program;[III)I" } : Jvm.MethodName)) ∈ lw_all := lw_g (lw_at lw_m8 16 rfl) rfl
theorem q1943 : (Jvm.Cond.code ({ cls := "SafeCode$Machine", name := "run", desc := "(LSafeCode$Program;[III)I" } : Jvm.MethodName) prog_8_method_2_code (5 : Nat) (Option.some Jvm.ClassFile.FieldType.int)) ∈ lw_all := lw_g (lw_at lw_m8 17 rfl) rfl
theorem q1944 : (Jvm.Cond.methodLink "SafeCode$Machine" (76 : Nat) ({ cls := "SafeCode$Machine", name := "enter", desc := "(I)V" } : Jvm.MethodName)) ∈ lw_all := lw_g (lw_at lw_m8 18 rfl) rfl
theorem q1945 : (Jvm.Cond.privateMethod ({ cls := "SafeCode$Machine", name := "enter", desc := "(I)V" } : Jvm.MethodName)) ∈ lw_tbl := lw_at lw_m8 19 rfl
theorem q1946 : (Jvm.Cond.instanceMethod ({ cls := "SafeCode$Machine", name := "enter", desc := "(I)V" } : Jvm.MethodName)) ∈ lw_all := lw_g (lw_at lw_m8 20 rfl) rfl
theorem q1947 : (Jvm.Cond.code ({ cls := "SafeCode$Machine", name := "enter", desc := "(I)V" } : Jvm.MethodName) prog_8_method_3_code (3 : Nat) (Option.none : Option Jvm.ClassFile.FieldType)) ∈ lw_all := lw_g (lw_at lw_m8 21 rfl) rfl
theorem q1948 : (Jvm.Cond.methodLink "SafeCode$Machine" (83 : Nat) ({ cls := "SafeCode$Machine", name := "step", desc := "(I)V" } : Jvm.MethodName)) ∈ lw_all := lw_g (lw_at lw_m8 22 rfl) rfl
theorem q1949 : (Jvm.Cond.privateMethod ({ cls := "SafeCode$Machine", name := "step", desc := "(I)V" } : Jvm.MethodName)) ∈ lw_tbl := lw_at lw_m8 23 rfl
theorem q1950 : (Jvm.Cond.instanceMethod ({ cls := "SafeCode$Machine", name := "step", desc := "(I)V" } : Jvm.MethodName)) ∈ lw_all := lw_g (lw_at lw_m8 24 rfl) rfl
theorem q1951 : (Jvm.Cond.code ({ cls := "SafeCode$Machine", name := "step", desc := "(I)V" } : Jvm.MethodName) prog_8_method_11_code (4 : Nat) (Option.none : Option Jvm.ClassFile.FieldType)) ∈ lw_all := lw_g (lw_at lw_m8 25 rfl) rfl
theorem q1952 : (Jvm.Cond.methodLink "SafeCode$Machine" (124 : Nat) ({ cls := "SafeCode$Machine", name := "compute", desc := "(I)V" } : Jvm.MethodName)) ∈ lw_all := lw_g (lw_at lw_m8 26 rfl) rfl
theorem q1953 : (Jvm.Cond.privateMethod ({ cls := "SafeCode$Machine", name := "compute", desc := "(I)V" } : Jvm.MethodName)) ∈ lw_tbl := lw_at lw_m8 27 rfl
theorem q1954 : (Jvm.Cond.instanceMethod ({ cls := "SafeCode$Machine", name := "compute", desc := "(I)V" } : Jvm.MethodName)) ∈ lw_all := lw_g (lw_at lw_m8 28 rfl) rfl
theorem q1955 : (Jvm.Cond.code ({ cls := "SafeCode$Machine", name := "compute", desc := "(I)V" } : Jvm.MethodName) prog_8_method_13_code (4 : Nat) (Option.none : Option Jvm.ClassFile.FieldType)) ∈ lw_all := lw_g (lw_at lw_m8 29 rfl) rfl
theorem q1956 : (Jvm.Cond.methodLink "SafeCode$Machine" (140 : Nat) ({ cls := "SafeCode$Machine", name := "pop", desc := "()I" } : Jvm.MethodName)) ∈ lw_all := lw_g (lw_at lw_m8 30 rfl) rfl
theorem q1957 : (Jvm.Cond.privateMethod ({ cls := "SafeCode$Machine", name := "pop", desc := "()I" } : Jvm.MethodName)) ∈ lw_tbl := lw_at lw_m8 31 rfl
theorem q1958 : (Jvm.Cond.instanceMethod ({ cls := "SafeCode$Machine", name := "pop", desc := "()I" } : Jvm.MethodName)) ∈ lw_all := lw_g (lw_at lw_m8 32 rfl) rfl
theorem q1959 : (Jvm.Cond.code ({ cls := "SafeCode$Machine", name := "pop", desc := "()I" } : Jvm.MethodName) prog_8_method_5_code (1 : Nat) (Option.some Jvm.ClassFile.FieldType.int)) ∈ lw_all := lw_g (lw_at lw_m8 33 rfl) rfl
theorem q1960 : (Jvm.Cond.methodLink "SafeCode$Machine" (115 : Nat) ({ cls := "SafeCode$Machine", name := "push", desc := "(I)V" } : Jvm.MethodName)) ∈ lw_all := lw_g (lw_at lw_m8 34 rfl) rfl
theorem q1961 : (Jvm.Cond.privateMethod ({ cls := "SafeCode$Machine", name := "push", desc := "(I)V" } : Jvm.MethodName)) ∈ lw_tbl := lw_at lw_m8 35 rfl
theorem q1962 : (Jvm.Cond.instanceMethod ({ cls := "SafeCode$Machine", name := "push", desc := "(I)V" } : Jvm.MethodName)) ∈ lw_all := lw_g (lw_at lw_m8 36 rfl) rfl
theorem q1963 : (Jvm.Cond.code ({ cls := "SafeCode$Machine", name := "push", desc := "(I)V" } : Jvm.MethodName) prog_8_method_4_code (2 : Nat) (Option.none : Option Jvm.ClassFile.FieldType)) ∈ lw_all := lw_g (lw_at lw_m8 37 rfl) rfl
theorem q1964 : (Jvm.Cond.methodLink "SafeCode$Machine" (144 : Nat) ({ cls := "SafeCode$Machine", name := "raise", desc := "(I)V" } : Jvm.MethodName)) ∈ lw_all := lw_g (lw_at lw_m8 38 rfl) rfl
theorem q1965 : (Jvm.Cond.privateMethod ({ cls := "SafeCode$Machine", name := "raise", desc := "(I)V" } : Jvm.MethodName)) ∈ lw_tbl := lw_at lw_m8 39 rfl
theorem q1966 : (Jvm.Cond.instanceMethod ({ cls := "SafeCode$Machine", name := "raise", desc := "(I)V" } : Jvm.MethodName)) ∈ lw_all := lw_g (lw_at lw_m8 40 rfl) rfl
theorem q1967 : (Jvm.Cond.code ({ cls := "SafeCode$Machine", name := "raise", desc := "(I)V" } : Jvm.MethodName) prog_8_method_9_code (3 : Nat) (Option.none : Option Jvm.ClassFile.FieldType)) ∈ lw_all := lw_g (lw_at lw_m8 41 rfl) rfl
theorem q1968 : (Jvm.Cond.methodLink "SafeCode$Machine" (96 : Nat) ({ cls := "SafeCode$Machine", name := "make", desc := "(II)I" } : Jvm.MethodName)) ∈ lw_all := lw_g (lw_at lw_m8 42 rfl) rfl
theorem q1969 : (Jvm.Cond.privateMethod ({ cls := "SafeCode$Machine", name := "make", desc := "(II)I" } : Jvm.MethodName)) ∈ lw_tbl := lw_at lw_m8 43 rfl
theorem q1970 : (Jvm.Cond.instanceMethod ({ cls := "SafeCode$Machine", name := "make", desc := "(II)I" } : Jvm.MethodName)) ∈ lw_all := lw_g (lw_at lw_m8 44 rfl) rfl
theorem q1971 : (Jvm.Cond.code ({ cls := "SafeCode$Machine", name := "make", desc := "(II)I" } : Jvm.MethodName) prog_8_method_7_code (4 : Nat) (Option.some Jvm.ClassFile.FieldType.int)) ∈ lw_all := lw_g (lw_at lw_m8 45 rfl) rfl
theorem q1972 : (Jvm.Cond.methodLink "SafeCode$Machine" (100 : Nat) ({ cls := "SafeCode$Machine", name := "unwind", desc := "(I)V" } : Jvm.MethodName)) ∈ lw_all := lw_g (lw_at lw_m8 46 rfl) rfl
theorem q1973 : (Jvm.Cond.privateMethod ({ cls := "SafeCode$Machine", name := "unwind", desc := "(I)V" } : Jvm.MethodName)) ∈ lw_tbl := lw_at lw_m8 47 rfl
theorem q1974 : (Jvm.Cond.instanceMethod ({ cls := "SafeCode$Machine", name := "unwind", desc := "(I)V" } : Jvm.MethodName)) ∈ lw_all := lw_g (lw_at lw_m8 48 rfl) rfl
theorem q1975 : (Jvm.Cond.code ({ cls := "SafeCode$Machine", name := "unwind", desc := "(I)V" } : Jvm.MethodName) prog_8_method_10_code (4 : Nat) (Option.none : Option Jvm.ClassFile.FieldType)) ∈ lw_all := lw_g (lw_at lw_m8 49 rfl) rfl
theorem q1976 : (Jvm.Cond.methodLink "SafeCode$Machine" (92 : Nat) ({ cls := "SafeCode$Program", name := "isBelow", desc := "(II)Z" } : Jvm.MethodName)) ∈ lw_all := lw_g (lw_at lw_m8 50 rfl) rfl
theorem q1977 : (Jvm.Cond.methodLink "SafeCode$Machine" (160 : Nat) ({ cls := "SafeCode$Machine", name := "made", desc := "(III)I" } : Jvm.MethodName)) ∈ lw_all := lw_g (lw_at lw_m8 51 rfl) rfl
theorem q1978 : (Jvm.Cond.static ({ cls := "SafeCode$Machine", name := "made", desc := "(III)I" } : Jvm.MethodName)) ∈ lw_all := lw_g (lw_at lw_m8 52 rfl) rfl
theorem q1979 : (Jvm.Cond.code ({ cls := "SafeCode$Machine", name := "made", desc := "(III)I" } : Jvm.MethodName) prog_8_method_14_code (3 : Nat) (Option.some Jvm.ClassFile.FieldType.int)) ∈ lw_all := lw_g (lw_at lw_m8 53 rfl) rfl
theorem q1980 : (Jvm.Cond.methodLink "SafeCode$Machine" (127 : Nat) ({ cls := "SafeCode$Machine", name := "jump", desc := "(II)V" } : Jvm.MethodName)) ∈ lw_all := lw_g (lw_at lw_m8 54 rfl) rfl
theorem q1981 : (Jvm.Cond.privateMethod ({ cls := "SafeCode$Machine", name := "jump", desc := "(II)V" } : Jvm.MethodName)) ∈ lw_tbl := lw_at lw_m8 55 rfl
theorem q1982 : (Jvm.Cond.instanceMethod ({ cls := "SafeCode$Machine", name := "jump", desc := "(II)V" } : Jvm.MethodName)) ∈ lw_all := lw_g (lw_at lw_m8 56 rfl) rfl
theorem q1983 : (Jvm.Cond.code ({ cls := "SafeCode$Machine", name := "jump", desc := "(II)V" } : Jvm.MethodName) prog_8_method_15_code (7 : Nat) (Option.none : Option Jvm.ClassFile.FieldType)) ∈ lw_all := lw_g (lw_at lw_m8 57 rfl) rfl
theorem q1984 : (Jvm.Cond.methodLink "SafeCode$Machine" (131 : Nat) ({ cls := "SafeCode$Machine", name := "heap", desc := "(II)V" } : Jvm.MethodName)) ∈ lw_all := lw_g (lw_at lw_m8 58 rfl) rfl
theorem q1985 : (Jvm.Cond.privateMethod ({ cls := "SafeCode$Machine", name := "heap", desc := "(II)V" } : Jvm.MethodName)) ∈ lw_tbl := lw_at lw_m8 59 rfl
theorem q1986 : (Jvm.Cond.instanceMethod ({ cls := "SafeCode$Machine", name := "heap", desc := "(II)V" } : Jvm.MethodName)) ∈ lw_all := lw_g (lw_at lw_m8 60 rfl) rfl
theorem q1987 : (Jvm.Cond.code ({ cls := "SafeCode$Machine", name := "heap", desc := "(II)V" } : Jvm.MethodName) prog_8_method_16_code (5 : Nat) (Option.none : Option Jvm.ClassFile.FieldType)) ∈ lw_all := lw_g (lw_at lw_m8 61 rfl) rfl
theorem q1988 : (Jvm.Cond.methodLink "SafeCode$Machine" (167 : Nat) ({ cls := "SafeCode$Machine", name := "give", desc := "(I)Z" } : Jvm.MethodName)) ∈ lw_all := lw_g (lw_at lw_m8 62 rfl) rfl
theorem q1989 : (Jvm.Cond.privateMethod ({ cls := "SafeCode$Machine", name := "give", desc := "(I)Z" } : Jvm.MethodName)) ∈ lw_tbl := lw_at lw_m8 63 rfl
theorem q1990 : (Jvm.Cond.instanceMethod ({ cls := "SafeCode$Machine", name := "give", desc := "(I)Z" } : Jvm.MethodName)) ∈ lw_all := lw_g (lw_at lw_m8 64 rfl) rfl
theorem q1991 : (Jvm.Cond.code ({ cls := "SafeCode$Machine", name := "give", desc := "(I)Z" } : Jvm.MethodName) prog_8_method_17_code (2 : Nat) (Option.some Jvm.ClassFile.FieldType.boolean)) ∈ lw_all := lw_g (lw_at lw_m8 65 rfl) rfl
theorem q1992 : (Jvm.Cond.methodLink "SafeCode$Machine" (171 : Nat) ({ cls := "SafeCode$Machine", name := "makeArray", desc := "(II)Z" } : Jvm.MethodName)) ∈ lw_all := lw_g (lw_at lw_m8 66 rfl) rfl
theorem q1993 : (Jvm.Cond.privateMethod ({ cls := "SafeCode$Machine", name := "makeArray", desc := "(II)Z" } : Jvm.MethodName)) ∈ lw_tbl := lw_at lw_m8 67 rfl
theorem q1994 : (Jvm.Cond.instanceMethod ({ cls := "SafeCode$Machine", name := "makeArray", desc := "(II)Z" } : Jvm.MethodName)) ∈ lw_all := lw_g (lw_at lw_m8 68 rfl) rfl
theorem q1995 : (Jvm.Cond.code ({ cls := "SafeCode$Machine", name := "makeArray", desc := "(II)Z" } : Jvm.MethodName) prog_8_method_19_code (3 : Nat) (Option.some Jvm.ClassFile.FieldType.boolean)) ∈ lw_all := lw_g (lw_at lw_m8 69 rfl) rfl
theorem q1996 : (Jvm.Cond.methodLink "SafeCode$Machine" (192 : Nat) ({ cls := "SafeCode$Machine", name := "wrong", desc := "(I)Z" } : Jvm.MethodName)) ∈ lw_all := lw_g (lw_at lw_m8 70 rfl) rfl
theorem q1997 : (Jvm.Cond.privateMethod ({ cls := "SafeCode$Machine", name := "wrong", desc := "(I)Z" } : Jvm.MethodName)) ∈ lw_tbl := lw_at lw_m8 71 rfl
theorem q1998 : (Jvm.Cond.instanceMethod ({ cls := "SafeCode$Machine", name := "wrong", desc := "(I)Z" } : Jvm.MethodName)) ∈ lw_all := lw_g (lw_at lw_m8 72 rfl) rfl
theorem q1999 : (Jvm.Cond.code ({ cls := "SafeCode$Machine", name := "wrong", desc := "(I)Z" } : Jvm.MethodName) prog_8_method_18_code (2 : Nat) (Option.some Jvm.ClassFile.FieldType.boolean)) ∈ lw_all := lw_g (lw_at lw_m8 73 rfl) rfl
theorem q2000 : (Jvm.Cond.methodLink "SafeCode$Machine" (174 : Nat) ({ cls := "SafeCode$Machine", name := "length", desc := "(I)Z" } : Jvm.MethodName)) ∈ lw_all := lw_g (lw_at lw_m8 74 rfl) rfl
theorem q2001 : (Jvm.Cond.privateMethod ({ cls := "SafeCode$Machine", name := "length", desc := "(I)Z" } : Jvm.MethodName)) ∈ lw_tbl := lw_at lw_m8 75 rfl
theorem q2002 : (Jvm.Cond.instanceMethod ({ cls := "SafeCode$Machine", name := "length", desc := "(I)Z" } : Jvm.MethodName)) ∈ lw_all := lw_g (lw_at lw_m8 76 rfl) rfl
theorem q2003 : (Jvm.Cond.code ({ cls := "SafeCode$Machine", name := "length", desc := "(I)Z" } : Jvm.MethodName) prog_8_method_20_code (2 : Nat) (Option.some Jvm.ClassFile.FieldType.boolean)) ∈ lw_all := lw_g (lw_at lw_m8 77 rfl) rfl
theorem q2004 : (Jvm.Cond.methodLink "SafeCode$Machine" (177 : Nat) ({ cls := "SafeCode$Machine", name := "element", desc := "(I)Z" } : Jvm.MethodName)) ∈ lw_all := lw_g (lw_at lw_m8 78 rfl) rfl
theorem q2005 : (Jvm.Cond.privateMethod ({ cls := "SafeCode$Machine", name := "element", desc := "(I)Z" } : Jvm.MethodName)) ∈ lw_tbl := lw_at lw_m8 79 rfl
theorem q2006 : (Jvm.Cond.instanceMethod ({ cls := "SafeCode$Machine", name := "element", desc := "(I)Z" } : Jvm.MethodName)) ∈ lw_all := lw_g (lw_at lw_m8 80 rfl) rfl
theorem q2007 : (Jvm.Cond.code ({ cls := "SafeCode$Machine", name := "element", desc := "(I)Z" } : Jvm.MethodName) prog_8_method_21_code (6 : Nat) (Option.some Jvm.ClassFile.FieldType.boolean)) ∈ lw_all := lw_g (lw_at lw_m8 81 rfl) rfl
theorem q2008 : (Jvm.Cond.methodLink "SafeCode$Machine" (195 : Nat) ({ cls := "SafeCode$Program", name := "element", desc := "(I)I" } : Jvm.MethodName)) ∈ lw_all := lw_g (lw_at lw_m8 82 rfl) rfl
theorem q2009 : (Jvm.Cond.methodLink "SafeCode$Machine" (189 : Nat) ({ cls := "SafeCode$Machine", name := "isOf", desc := "(II)Z" } : Jvm.MethodName)) ∈ lw_all := lw_g (lw_at lw_m8 83 rfl) rfl
theorem q2010 : (Jvm.Cond.privateMethod ({ cls := "SafeCode$Machine", name := "isOf", desc := "(II)Z" } : Jvm.MethodName)) ∈ lw_tbl := lw_at lw_m8 84 rfl
theorem q2011 : (Jvm.Cond.instanceMethod ({ cls := "SafeCode$Machine", name := "isOf", desc := "(II)Z" } : Jvm.MethodName)) ∈ lw_all := lw_g (lw_at lw_m8 85 rfl) rfl
theorem q2012 : (Jvm.Cond.code ({ cls := "SafeCode$Machine", name := "isOf", desc := "(II)Z" } : Jvm.MethodName) prog_8_method_8_code (3 : Nat) (Option.some Jvm.ClassFile.FieldType.boolean)) ∈ lw_all := lw_g (lw_at lw_m8 86 rfl) rfl
theorem q2013 : (Jvm.Cond.methodLink "SafeCode$Machine" (183 : Nat) ({ cls := "SafeCode$Machine", name := "field", desc := "(II)Z" } : Jvm.MethodName)) ∈ lw_all := lw_g (lw_at lw_m8 87 rfl) rfl
theorem q2014 : (Jvm.Cond.privateMethod ({ cls := "SafeCode$Machine", name := "field", desc := "(II)Z" } : Jvm.MethodName)) ∈ lw_tbl := lw_at lw_m8 88 rfl
theorem q2015 : (Jvm.Cond.instanceMethod ({ cls := "SafeCode$Machine", name := "field", desc := "(II)Z" } : Jvm.MethodName)) ∈ lw_all := lw_g (lw_at lw_m8 89 rfl) rfl
theorem q2016 : (Jvm.Cond.code ({ cls := "SafeCode$Machine", name := "field", desc := "(II)Z" } : Jvm.MethodName) prog_8_method_22_code (5 : Nat) (Option.some Jvm.ClassFile.FieldType.boolean)) ∈ lw_all := lw_g (lw_at lw_m8 90 rfl) rfl
theorem q2017 : (Jvm.Cond.methodLink "SafeCode$Machine" (186 : Nat) ({ cls := "SafeCode$Machine", name := "cast", desc := "(II)Z" } : Jvm.MethodName)) ∈ lw_all := lw_g (lw_at lw_m8 91 rfl) rfl
theorem q2018 : (Jvm.Cond.privateMethod ({ cls := "SafeCode$Machine", name := "cast", desc := "(II)Z" } : Jvm.MethodName)) ∈ lw_tbl := lw_at lw_m8 92 rfl
theorem q2019 : (Jvm.Cond.instanceMethod ({ cls := "SafeCode$Machine", name := "cast", desc := "(II)Z" } : Jvm.MethodName)) ∈ lw_all := lw_g (lw_at lw_m8 93 rfl) rfl
theorem q2020 : (Jvm.Cond.code ({ cls := "SafeCode$Machine", name := "cast", desc := "(II)Z" } : Jvm.MethodName) prog_8_method_23_code (3 : Nat) (Option.some Jvm.ClassFile.FieldType.boolean)) ∈ lw_all := lw_g (lw_at lw_m8 94 rfl) rfl
theorem q2021 : (Jvm.Cond.methodLink "SafeCode$Machine" (134 : Nat) ({ cls := "SafeCode$Machine", name := "call", desc := "(II)V" } : Jvm.MethodName)) ∈ lw_all := lw_g (lw_at lw_m8 95 rfl) rfl
theorem q2022 : (Jvm.Cond.privateMethod ({ cls := "SafeCode$Machine", name := "call", desc := "(II)V" } : Jvm.MethodName)) ∈ lw_tbl := lw_at lw_m8 96 rfl
theorem q2023 : (Jvm.Cond.instanceMethod ({ cls := "SafeCode$Machine", name := "call", desc := "(II)V" } : Jvm.MethodName)) ∈ lw_all := lw_g (lw_at lw_m8 97 rfl) rfl
theorem q2024 : (Jvm.Cond.code ({ cls := "SafeCode$Machine", name := "call", desc := "(II)V" } : Jvm.MethodName) prog_8_method_24_code (7 : Nat) (Option.none : Option Jvm.ClassFile.FieldType)) ∈ lw_all := lw_g (lw_at lw_m8 98 rfl) rfl
theorem q2025 : (Jvm.Cond.methodLink "SafeCode$Machine" (156 : Nat) ({ cls := "SafeCode$Machine", name := "local", desc := "(I)I" } : Jvm.MethodName)) ∈ lw_all := lw_g (lw_at lw_m8 99 rfl) rfl
theorem q2026 : (Jvm.Cond.privateMethod ({ cls := "SafeCode$Machine", name := "local", desc := "(I)I" } : Jvm.MethodName)) ∈ lw_tbl := lw_at lw_m8 100 rfl
theorem q2027 : (Jvm.Cond.instanceMethod ({ cls := "SafeCode$Machine", name := "local", desc := "(I)I" } : Jvm.MethodName)) ∈ lw_all := lw_g (lw_at lw_m8 101 rfl) rfl
theorem q2028 : (Jvm.Cond.code ({ cls := "SafeCode$Machine", name := "local", desc := "(I)I" } : Jvm.MethodName) prog_8_method_6_code (2 : Nat) (Option.some Jvm.ClassFile.FieldType.int)) ∈ lw_all := lw_g (lw_at lw_m8 102 rfl) rfl
theorem q2029 : (Jvm.Cond.methodLink "SafeCode$Machine" (200 : Nat) ({ cls := "SafeCode$Program", name := "method", desc := "(II)I" } : Jvm.MethodName)) ∈ lw_all := lw_g (lw_at lw_m8 103 rfl) rfl
theorem q2030 : (Jvm.Cond.methodLink "SafeCode$Machine" (137 : Nat) ({ cls := "SafeCode$Machine", name := "leave", desc := "(I)V" } : Jvm.MethodName)) ∈ lw_all := lw_g (lw_at lw_m8 104 rfl) rfl
theorem q2031 : (Jvm.Cond.privateMethod ({ cls := "SafeCode$Machine", name := "leave", desc := "(I)V" } : Jvm.MethodName)) ∈ lw_tbl := lw_at lw_m8 105 rfl
theorem q2032 : (Jvm.Cond.instanceMethod ({ cls := "SafeCode$Machine", name := "leave", desc := "(I)V" } : Jvm.MethodName)) ∈ lw_all := lw_g (lw_at lw_m8 106 rfl) rfl
theorem q2033 : (Jvm.Cond.code ({ cls := "SafeCode$Machine", name := "leave", desc := "(I)V" } : Jvm.MethodName) prog_8_method_25_code (3 : Nat) (Option.none : Option Jvm.ClassFile.FieldType)) ∈ lw_all := lw_g (lw_at lw_m8 107 rfl) rfl
theorem q2034 : (Jvm.Cond.methodLink "SafeCode$Machine" (147 : Nat) ({ cls := "SafeCode$Machine", name := "simple", desc := "(II)V" } : Jvm.MethodName)) ∈ lw_all := lw_g (lw_at lw_m8 108 rfl) rfl
theorem q2035 : (Jvm.Cond.privateMethod ({ cls := "SafeCode$Machine", name := "simple", desc := "(II)V" } : Jvm.MethodName)) ∈ lw_tbl := lw_at lw_m8 109 rfl
theorem q2036 : (Jvm.Cond.instanceMethod ({ cls := "SafeCode$Machine", name := "simple", desc := "(II)V" } : Jvm.MethodName)) ∈ lw_all := lw_g (lw_at lw_m8 110 rfl) rfl
theorem q2037 : (Jvm.Cond.code ({ cls := "SafeCode$Machine", name := "simple", desc := "(II)V" } : Jvm.MethodName) prog_8_method_12_code (6 : Nat) (Option.none : Option Jvm.ClassFile.FieldType)) ∈ lw_all := lw_g (lw_at lw_m8 111 rfl) rfl
theorem in_X13 : ∀ w ∈ wsX130, w ∈ lw_all := lw_in wsX130 [762, 764, 766, 768, 770, 772, 774, 776, 778, 780, 782, 784, 786, 788, 790, 792, 794, 796, 798, 800] (by decide +kernel) (by decide +kernel)
/-! SafeCode$Program -/
def RX14 : String := "SafeCode$Program"
def TX14 : u_T := fun k => match k with
  | 0 => ("SafeCode$Program", "classes", "I", false)
  | 1 => ("SafeCode$Program", "above", "[I", true)
  | 2 => ("SafeCode$Program", "fields", "I", false)
  | 3 => ("SafeCode$Program", "fieldClass", "[I", true)
  | 4 => ("SafeCode$Program", "fieldType", "[I", true)
  | 5 => ("SafeCode$Program", "fieldPlace", "[I", true)
  | 6 => ("SafeCode$Program", "fieldCount", "[I", true)
  | 7 => ("SafeCode$Program", "bodies", "I", false)
  | 8 => ("SafeCode$Program", "bodyClass", "[I", true)
  | 9 => ("SafeCode$Program", "bodyName", "[I", true)
  | 10 => ("SafeCode$Program", "hasObject", "[Z", true)
  | 11 => ("SafeCode$Program", "parameters", "[I", true)
  | 12 => ("SafeCode$Program", "types", "[I", true)
  | 13 => ("SafeCode$Program", "result", "[I", true)
  | 14 => ("SafeCode$Program", "locals", "[I", true)
  | 15 => ("SafeCode$Program", "first", "[I", true)
  | 16 => ("SafeCode$Program", "end", "[I", true)
  | 17 => ("SafeCode$Program", "size", "I", false)
  | 18 => ("SafeCode$Program", "operation", "[I", true)
  | 19 => ("SafeCode$Program", "operand", "[I", true)
  | 20 => ("SafeCode$Program", "number", "[I", true)
  | 21 => ("SafeCode$Program", "token", "[I", true)
  | 22 => ("SafeCode$Program", "body", "[I", true)
  | 23 => ("SafeCode$Program", "height", "[I", true)
  | 24 => ("SafeCode$Program", "sites", "I", false)
  | 25 => ("SafeCode$Program", "siteType", "[I", true)
  | 26 => ("SafeCode$Program", "catches", "I", false)
  | 27 => ("SafeCode$Program", "catchFrom", "[I", true)
  | 28 => ("SafeCode$Program", "catchTo", "[I", true)
  | 29 => ("SafeCode$Program", "catchAt", "[I", true)
  | 30 => ("SafeCode$Program", "catchClass", "[I", true)
  | _ => ("SafeCode$Program", "main", "I", false)
def tyX14 : Nat → FieldType := fun k => match k with
  | 0 => .int
  | 1 => .array .int
  | 2 => .int
  | 3 => .array .int
  | 4 => .array .int
  | 5 => .array .int
  | 6 => .array .int
  | 7 => .int
  | 8 => .array .int
  | 9 => .array .int
  | 10 => .array .boolean
  | 11 => .array .int
  | 12 => .array .int
  | 13 => .array .int
  | 14 => .array .int
  | 15 => .array .int
  | 16 => .array .int
  | 17 => .int
  | 18 => .array .int
  | 19 => .array .int
  | 20 => .array .int
  | 21 => .array .int
  | 22 => .array .int
  | 23 => .array .int
  | 24 => .int
  | 25 => .array .int
  | 26 => .int
  | 27 => .array .int
  | 28 => .array .int
  | 29 => .array .int
  | 30 => .array .int
  | _ => .int
abbrev wsX140 : List Cond := u_ws RX14 TX14 32
theorem nmX14 : ∀ a, a < 32 → ∀ b, b < 32 → a ≠ b → (TX14 a).2.1 ≠ (TX14 b).2.1 := by decide +kernel
theorem tyX14_ok : ∀ k, k < 32 → parseFieldDescriptor (TX14 k).2.2.1 = some (tyX14 k) := by decide +kernel
abbrev cX14_init : ByteArray := prog_9_method_1_code
def yX14_init : MethodName := ⟨RX14, "<init>", "()V"⟩
abbrev cX14_clear : ByteArray := prog_9_method_2_code
def yX14_clear : MethodName := ⟨RX14, "clear", "()V"⟩
abbrev cX14_isClassBelow : ByteArray := prog_9_method_3_code
def yX14_isClassBelow : MethodName := ⟨RX14, "isClassBelow", "(II)Z"⟩
abbrev cX14_goesOn : ByteArray := prog_9_method_10_code
def yX14_goesOn : MethodName := ⟨RX14, "goesOn", "(I)Z"⟩
abbrev cX14_takes : ByteArray := prog_9_method_12_code
def yX14_takes : MethodName := ⟨RX14, "takes", "(I)I"⟩
abbrev cX14_leaves : ByteArray := prog_9_method_13_code
def yX14_leaves : MethodName := ⟨RX14, "leaves", "(I)I"⟩
abbrev cX14_isJump : ByteArray := prog_9_method_11_code
def yX14_isJump : MethodName := ⟨RX14, "isJump", "(I)Z"⟩
abbrev cX14_join : ByteArray := prog_9_method_6_code
def yX14_join : MethodName := ⟨RX14, "join", "(II)I"⟩
abbrev cX14_isBelow : ByteArray := prog_9_method_4_code
def yX14_isBelow : MethodName := ⟨RX14, "isBelow", "(II)Z"⟩
abbrev cX14_classJoin : ByteArray := prog_9_method_5_code
def yX14_classJoin : MethodName := ⟨RX14, "classJoin", "(II)I"⟩
abbrev cX14_isArray : ByteArray := prog_9_method_7_code
def yX14_isArray : MethodName := ⟨RX14, "isArray", "(I)Z"⟩
abbrev cX14_element : ByteArray := prog_9_method_8_code
def yX14_element : MethodName := ⟨RX14, "element", "(I)I"⟩
abbrev cX14_method : ByteArray := prog_9_method_9_code
def yX14_method : MethodName := ⟨RX14, "method", "(II)I"⟩
theorem q265 : (Jvm.Cond.initialized "SafeCode$Program") ∈ lw_all := lw_g (lw_at lw_m1 19 rfl) rfl
theorem q804 : (Jvm.Cond.instantiable "SafeCode$Program" (32 : Nat)) ∈ lw_all := lw_g (lw_at lw_m3 78 rfl) rfl
theorem q806 : (Jvm.Cond.instanceMethod ({ cls := "SafeCode$Program", name := "<init>", desc := "()V" } : Jvm.MethodName)) ∈ lw_all := lw_g (lw_at lw_m3 80 rfl) rfl
theorem q807 : (Jvm.Cond.code ({ cls := "SafeCode$Program", name := "<init>", desc := "()V" } : Jvm.MethodName) prog_9_method_1_code (1 : Nat) (Option.none : Option Jvm.ClassFile.FieldType)) ∈ lw_all := lw_g (lw_at lw_m3 81 rfl) rfl
theorem q808 : (Jvm.Cond.methodLink "SafeCode$Program" (3 : Nat) ({ cls := "java/lang/Object", name := "<init>", desc := "()V" } : Jvm.MethodName)) ∈ lw_all := lw_g (lw_at lw_m3 82 rfl) rfl
theorem q809 : (Jvm.Cond.fieldLink "SafeCode$Program" (88 : Nat) "SafeCode$Program" "classes" "I") ∈ lw_all := lw_g (lw_at lw_m3 83 rfl) rfl
theorem q813 : (Jvm.Cond.fieldLink "SafeCode$Program" (9 : Nat) "SafeCode$Program" "above" "[I") ∈ lw_all := lw_g (lw_at lw_m3 87 rfl) rfl
theorem q815 : (Jvm.Cond.fieldLink "SafeCode$Program" (92 : Nat) "SafeCode$Program" "fields" "I") ∈ lw_all := lw_g (lw_at lw_m3 89 rfl) rfl
theorem q818 : (Jvm.Cond.fieldLink "SafeCode$Program" (15 : Nat) "SafeCode$Program" "fieldClass" "[I") ∈ lw_all := lw_g (lw_at lw_m3 92 rfl) rfl
theorem q821 : (Jvm.Cond.fieldLink "SafeCode$Program" (18 : Nat) "SafeCode$Program" "fieldType" "[I") ∈ lw_all := lw_g (lw_at lw_m3 95 rfl) rfl
theorem q825 : (Jvm.Cond.fieldLink "SafeCode$Program" (21 : Nat) "SafeCode$Program" "fieldPlace" "[I") ∈ lw_all := lw_g (lw_at lw_m3 99 rfl) rfl
theorem q829 : (Jvm.Cond.fieldLink "SafeCode$Program" (24 : Nat) "SafeCode$Program" "fieldCount" "[I") ∈ lw_all := lw_g (lw_at lw_m3 103 rfl) rfl
theorem q833 : (Jvm.Cond.fieldLink "SafeCode$Program" (95 : Nat) "SafeCode$Program" "bodies" "I") ∈ lw_all := lw_g (lw_at lw_m3 107 rfl) rfl
theorem q836 : (Jvm.Cond.fieldLink "SafeCode$Program" (27 : Nat) "SafeCode$Program" "bodyClass" "[I") ∈ lw_all := lw_g (lw_at lw_m3 110 rfl) rfl
theorem q838 : (Jvm.Cond.fieldLink "SafeCode$Program" (30 : Nat) "SafeCode$Program" "bodyName" "[I") ∈ lw_all := lw_g (lw_at lw_m3 112 rfl) rfl
theorem q840 : (Jvm.Cond.fieldLink "SafeCode$Program" (33 : Nat) "SafeCode$Program" "hasObject" "[Z") ∈ lw_all := lw_g (lw_at lw_m3 114 rfl) rfl
theorem q842 : (Jvm.Cond.fieldLink "SafeCode$Program" (37 : Nat) "SafeCode$Program" "parameters" "[I") ∈ lw_all := lw_g (lw_at lw_m3 116 rfl) rfl
theorem q847 : (Jvm.Cond.fieldLink "SafeCode$Program" (40 : Nat) "SafeCode$Program" "types" "[I") ∈ lw_all := lw_g (lw_at lw_m3 121 rfl) rfl
theorem q850 : (Jvm.Cond.fieldLink "SafeCode$Program" (43 : Nat) "SafeCode$Program" "result" "[I") ∈ lw_all := lw_g (lw_at lw_m3 124 rfl) rfl
theorem q854 : (Jvm.Cond.fieldLink "SafeCode$Program" (46 : Nat) "SafeCode$Program" "locals" "[I") ∈ lw_all := lw_g (lw_at lw_m3 128 rfl) rfl
theorem q856 : (Jvm.Cond.fieldLink "SafeCode$Program" (49 : Nat) "SafeCode$Program" "first" "[I") ∈ lw_all := lw_g (lw_at lw_m3 130 rfl) rfl
theorem q861 : (Jvm.Cond.fieldLink "SafeCode$Program" (52 : Nat) "SafeCode$Program" "end" "[I") ∈ lw_all := lw_g (lw_at lw_m3 135 rfl) rfl
theorem q864 : (Jvm.Cond.fieldLink "SafeCode$Program" (98 : Nat) "SafeCode$Program" "size" "I") ∈ lw_all := lw_g (lw_at lw_m3 138 rfl) rfl
theorem q868 : (Jvm.Cond.fieldLink "SafeCode$Program" (55 : Nat) "SafeCode$Program" "operation" "[I") ∈ lw_all := lw_g (lw_at lw_m3 142 rfl) rfl
theorem q873 : (Jvm.Cond.fieldLink "SafeCode$Program" (58 : Nat) "SafeCode$Program" "operand" "[I") ∈ lw_all := lw_g (lw_at lw_m3 147 rfl) rfl
theorem q878 : (Jvm.Cond.fieldLink "SafeCode$Program" (61 : Nat) "SafeCode$Program" "number" "[I") ∈ lw_all := lw_g (lw_at lw_m3 152 rfl) rfl
theorem q883 : (Jvm.Cond.fieldLink "SafeCode$Program" (64 : Nat) "SafeCode$Program" "token" "[I") ∈ lw_all := lw_g (lw_at lw_m3 157 rfl) rfl
theorem q886 : (Jvm.Cond.fieldLink "SafeCode$Program" (67 : Nat) "SafeCode$Program" "body" "[I") ∈ lw_all := lw_g (lw_at lw_m3 160 rfl) rfl
theorem q890 : (Jvm.Cond.fieldLink "SafeCode$Program" (70 : Nat) "SafeCode$Program" "height" "[I") ∈ lw_all := lw_g (lw_at lw_m3 164 rfl) rfl
theorem q894 : (Jvm.Cond.fieldLink "SafeCode$Program" (101 : Nat) "SafeCode$Program" "sites" "I") ∈ lw_all := lw_g (lw_at lw_m3 168 rfl) rfl
theorem q898 : (Jvm.Cond.fieldLink "SafeCode$Program" (73 : Nat) "SafeCode$Program" "siteType" "[I") ∈ lw_all := lw_g (lw_at lw_m3 172 rfl) rfl
theorem q904 : (Jvm.Cond.fieldLink "SafeCode$Program" (104 : Nat) "SafeCode$Program" "catches" "I") ∈ lw_all := lw_g (lw_at lw_m3 178 rfl) rfl
theorem q908 : (Jvm.Cond.fieldLink "SafeCode$Program" (76 : Nat) "SafeCode$Program" "catchFrom" "[I") ∈ lw_all := lw_g (lw_at lw_m3 182 rfl) rfl
theorem q913 : (Jvm.Cond.fieldLink "SafeCode$Program" (79 : Nat) "SafeCode$Program" "catchTo" "[I") ∈ lw_all := lw_g (lw_at lw_m3 187 rfl) rfl
theorem q918 : (Jvm.Cond.fieldLink "SafeCode$Program" (82 : Nat) "SafeCode$Program" "catchAt" "[I") ∈ lw_all := lw_g (lw_at lw_m3 192 rfl) rfl
theorem q923 : (Jvm.Cond.fieldLink "SafeCode$Program" (85 : Nat) "SafeCode$Program" "catchClass" "[I") ∈ lw_all := lw_g (lw_at lw_m3 197 rfl) rfl
theorem q930 : (Jvm.Cond.fieldLink "SafeCode$Program" (107 : Nat) "SafeCode$Program" "main" "I") ∈ lw_all := lw_g (lw_at lw_m3 204 rfl) rfl
theorem q933 : (Jvm.Cond.lays "SafeCode$Program" "SafeCode$Program" "classes" "I") ∈ lw_all := lw_g (lw_at lw_m3 207 rfl) rfl
theorem q934 : (Jvm.Cond.soleField "SafeCode$Program" "classes") ∈ lw_all := lw_g (lw_at lw_m3 208 rfl) rfl
theorem q935 : (Jvm.Cond.laysFinal "SafeCode$Program" "SafeCode$Program" "above" "[I") ∈ lw_all := lw_g (lw_at lw_m3 209 rfl) rfl
theorem q936 : (Jvm.Cond.soleField "SafeCode$Program" "above") ∈ lw_all := lw_g (lw_at lw_m3 210 rfl) rfl
theorem q937 : (Jvm.Cond.lays "SafeCode$Program" "SafeCode$Program" "fields" "I") ∈ lw_all := lw_g (lw_at lw_m3 211 rfl) rfl
theorem q938 : (Jvm.Cond.soleField "SafeCode$Program" "fields") ∈ lw_all := lw_g (lw_at lw_m3 212 rfl) rfl
theorem q939 : (Jvm.Cond.laysFinal "SafeCode$Program" "SafeCode$Program" "fieldClass" "[I") ∈ lw_all := lw_g (lw_at lw_m3 213 rfl) rfl
theorem q940 : (Jvm.Cond.soleField "SafeCode$Program" "fieldClass") ∈ lw_all := lw_g (lw_at lw_m3 214 rfl) rfl
theorem q941 : (Jvm.Cond.laysFinal "SafeCode$Program" "SafeCode$Program" "fieldType" "[I") ∈ lw_all := lw_g (lw_at lw_m3 215 rfl) rfl
theorem q942 : (Jvm.Cond.soleField "SafeCode$Program" "fieldType") ∈ lw_all := lw_g (lw_at lw_m3 216 rfl) rfl
theorem q943 : (Jvm.Cond.laysFinal "SafeCode$Program" "SafeCode$Program" "fieldPlace" "[I") ∈ lw_all := lw_g (lw_at lw_m3 217 rfl) rfl
theorem q944 : (Jvm.Cond.soleField "SafeCode$Program" "fieldPlace") ∈ lw_all := lw_g (lw_at lw_m3 218 rfl) rfl
theorem q945 : (Jvm.Cond.laysFinal "SafeCode$Program" "SafeCode$Program" "fieldCount" "[I") ∈ lw_all := lw_g (lw_at lw_m3 219 rfl) rfl
theorem q946 : (Jvm.Cond.soleField "SafeCode$Program" "fieldCount") ∈ lw_all := lw_g (lw_at lw_m3 220 rfl) rfl
theorem q947 : (Jvm.Cond.lays "SafeCode$Program" "SafeCode$Program" "bodies" "I") ∈ lw_all := lw_g (lw_at lw_m3 221 rfl) rfl
theorem q948 : (Jvm.Cond.soleField "SafeCode$Program" "bodies") ∈ lw_all := lw_g (lw_at lw_m3 222 rfl) rfl
theorem q949 : (Jvm.Cond.laysFinal "SafeCode$Program" "SafeCode$Program" "bodyClass" "[I") ∈ lw_all := lw_g (lw_at lw_m3 223 rfl) rfl
theorem q950 : (Jvm.Cond.soleField "SafeCode$Program" "bodyClass") ∈ lw_all := lw_g (lw_at lw_m3 224 rfl) rfl
theorem q951 : (Jvm.Cond.laysFinal "SafeCode$Program" "SafeCode$Program" "bodyName" "[I") ∈ lw_all := lw_g (lw_at lw_m3 225 rfl) rfl
theorem q952 : (Jvm.Cond.soleField "SafeCode$Program" "bodyName") ∈ lw_all := lw_g (lw_at lw_m3 226 rfl) rfl
theorem q953 : (Jvm.Cond.laysFinal "SafeCode$Program" "SafeCode$Program" "hasObject" "[Z") ∈ lw_all := lw_g (lw_at lw_m3 227 rfl) rfl
theorem q954 : (Jvm.Cond.soleField "SafeCode$Program" "hasObject") ∈ lw_all := lw_g (lw_at lw_m3 228 rfl) rfl
theorem q955 : (Jvm.Cond.laysFinal "SafeCode$Program" "SafeCode$Program" "parameters" "[I") ∈ lw_all := lw_g (lw_at lw_m3 229 rfl) rfl
theorem q956 : (Jvm.Cond.soleField "SafeCode$Program" "parameters") ∈ lw_all := lw_g (lw_at lw_m3 230 rfl) rfl
theorem q957 : (Jvm.Cond.laysFinal "SafeCode$Program" "SafeCode$Program" "types" "[I") ∈ lw_all := lw_g (lw_at lw_m3 231 rfl) rfl
theorem q958 : (Jvm.Cond.soleField "SafeCode$Program" "types") ∈ lw_all := lw_g (lw_at lw_m3 232 rfl) rfl
theorem q959 : (Jvm.Cond.laysFinal "SafeCode$Program" "SafeCode$Program" "result" "[I") ∈ lw_all := lw_g (lw_at lw_m3 233 rfl) rfl
theorem q960 : (Jvm.Cond.soleField "SafeCode$Program" "result") ∈ lw_all := lw_g (lw_at lw_m3 234 rfl) rfl
theorem q961 : (Jvm.Cond.laysFinal "SafeCode$Program" "SafeCode$Program" "locals" "[I") ∈ lw_all := lw_g (lw_at lw_m3 235 rfl) rfl
theorem q962 : (Jvm.Cond.soleField "SafeCode$Program" "locals") ∈ lw_all := lw_g (lw_at lw_m3 236 rfl) rfl
theorem q963 : (Jvm.Cond.laysFinal "SafeCode$Program" "SafeCode$Program" "first" "[I") ∈ lw_all := lw_g (lw_at lw_m3 237 rfl) rfl
theorem q964 : (Jvm.Cond.soleField "SafeCode$Program" "first") ∈ lw_all := lw_g (lw_at lw_m3 238 rfl) rfl
theorem q965 : (Jvm.Cond.laysFinal "SafeCode$Program" "SafeCode$Program" "end" "[I") ∈ lw_all := lw_g (lw_at lw_m3 239 rfl) rfl
theorem q966 : (Jvm.Cond.soleField "SafeCode$Program" "end") ∈ lw_all := lw_g (lw_at lw_m4 0 rfl) rfl
theorem q967 : (Jvm.Cond.lays "SafeCode$Program" "SafeCode$Program" "size" "I") ∈ lw_all := lw_g (lw_at lw_m4 1 rfl) rfl
theorem q968 : (Jvm.Cond.soleField "SafeCode$Program" "size") ∈ lw_all := lw_g (lw_at lw_m4 2 rfl) rfl
theorem q969 : (Jvm.Cond.laysFinal "SafeCode$Program" "SafeCode$Program" "operation" "[I") ∈ lw_all := lw_g (lw_at lw_m4 3 rfl) rfl
theorem q970 : (Jvm.Cond.soleField "SafeCode$Program" "operation") ∈ lw_all := lw_g (lw_at lw_m4 4 rfl) rfl
theorem q971 : (Jvm.Cond.laysFinal "SafeCode$Program" "SafeCode$Program" "operand" "[I") ∈ lw_all := lw_g (lw_at lw_m4 5 rfl) rfl
theorem q972 : (Jvm.Cond.soleField "SafeCode$Program" "operand") ∈ lw_all := lw_g (lw_at lw_m4 6 rfl) rfl
theorem q973 : (Jvm.Cond.laysFinal "SafeCode$Program" "SafeCode$Program" "number" "[I") ∈ lw_all := lw_g (lw_at lw_m4 7 rfl) rfl
theorem q974 : (Jvm.Cond.soleField "SafeCode$Program" "number") ∈ lw_all := lw_g (lw_at lw_m4 8 rfl) rfl
theorem q975 : (Jvm.Cond.laysFinal "SafeCode$Program" "SafeCode$Program" "token" "[I") ∈ lw_all := lw_g (lw_at lw_m4 9 rfl) rfl
theorem q976 : (Jvm.Cond.soleField "SafeCode$Program" "token") ∈ lw_all := lw_g (lw_at lw_m4 10 rfl) rfl
theorem q977 : (Jvm.Cond.laysFinal "SafeCode$Program" "SafeCode$Program" "body" "[I") ∈ lw_all := lw_g (lw_at lw_m4 11 rfl) rfl
theorem q978 : (Jvm.Cond.soleField "SafeCode$Program" "body") ∈ lw_all := lw_g (lw_at lw_m4 12 rfl) rfl
theorem q979 : (Jvm.Cond.laysFinal "SafeCode$Program" "SafeCode$Program" "height" "[I") ∈ lw_all := lw_g (lw_at lw_m4 13 rfl) rfl
theorem q980 : (Jvm.Cond.soleField "SafeCode$Program" "height") ∈ lw_all := lw_g (lw_at lw_m4 14 rfl) rfl
theorem q981 : (Jvm.Cond.lays "SafeCode$Program" "SafeCode$Program" "sites" "I") ∈ lw_all := lw_g (lw_at lw_m4 15 rfl) rfl
theorem q982 : (Jvm.Cond.soleField "SafeCode$Program" "sites") ∈ lw_all := lw_g (lw_at lw_m4 16 rfl) rfl
theorem q983 : (Jvm.Cond.laysFinal "SafeCode$Program" "SafeCode$Program" "siteType" "[I") ∈ lw_all := lw_g (lw_at lw_m4 17 rfl) rfl
theorem q984 : (Jvm.Cond.soleField "SafeCode$Program" "siteType") ∈ lw_all := lw_g (lw_at lw_m4 18 rfl) rfl
theorem q985 : (Jvm.Cond.lays "SafeCode$Program" "SafeCode$Program" "catches" "I") ∈ lw_all := lw_g (lw_at lw_m4 19 rfl) rfl
theorem q986 : (Jvm.Cond.soleField "SafeCode$Program" "catches") ∈ lw_all := lw_g (lw_at lw_m4 20 rfl) rfl
theorem q987 : (Jvm.Cond.laysFinal "SafeCode$Program" "SafeCode$Program" "catchFrom" "[I") ∈ lw_all := lw_g (lw_at lw_m4 21 rfl) rfl
theorem q988 : (Jvm.Cond.soleField "SafeCode$Program" "catchFrom") ∈ lw_all := lw_g (lw_at lw_m4 22 rfl) rfl
theorem q989 : (Jvm.Cond.laysFinal "SafeCode$Program" "SafeCode$Program" "catchTo" "[I") ∈ lw_all := lw_g (lw_at lw_m4 23 rfl) rfl
theorem q990 : (Jvm.Cond.soleField "SafeCode$Program" "catchTo") ∈ lw_all := lw_g (lw_at lw_m4 24 rfl) rfl
theorem q991 : (Jvm.Cond.laysFinal "SafeCode$Program" "SafeCode$Program" "catchAt" "[I") ∈ lw_all := lw_g (lw_at lw_m4 25 rfl) rfl
theorem q992 : (Jvm.Cond.soleField "SafeCode$Program" "catchAt") ∈ lw_all := lw_g (lw_at lw_m4 26 rfl) rfl
theorem q993 : (Jvm.Cond.laysFinal "SafeCode$Program" "SafeCode$Program" "catchClass" "[I") ∈ lw_all := lw_g (lw_at lw_m4 27 rfl) rfl
theorem q994 : (Jvm.Cond.soleField "SafeCode$Program" "catchClass") ∈ lw_all := lw_g (lw_at lw_m4 28 rfl) rfl
theorem q995 : (Jvm.Cond.lays "SafeCode$Program" "SafeCode$Program" "main" "I") ∈ lw_all := lw_g (lw_at lw_m4 29 rfl) rfl
theorem q996 : (Jvm.Cond.soleField "SafeCode$Program" "main") ∈ lw_all := lw_g (lw_at lw_m4 30 rfl) rfl
theorem q997 : (Jvm.Cond.superclass "SafeCode$Program" "java/lang/Object") ∈ lw_all := lw_g (lw_at lw_m4 31 rfl) rfl
theorem q1292 : (Jvm.Cond.instanceMethod ({ cls := "SafeCode$Program", name := "clear", desc := "()V" } : Jvm.MethodName)) ∈ lw_all := lw_g (lw_at lw_m5 86 rfl) rfl
theorem q1293 : (Jvm.Cond.selects "SafeCode$Program" ({ cls := "SafeCode$Program", name := "clear", desc := "()V" } : Jvm.MethodName) ({ cls := "SafeCode$Program", name := "clear", desc := "()V" } : Jvm.MethodName)) ∈ lw_all := lw_g (lw_at lw_m5 87 rfl) rfl
theorem q1294 : (Jvm.Cond.code ({ cls := "SafeCode$Program", name := "clear", desc := "()V" } : Jvm.MethodName) prog_9_method_2_code (2 : Nat) (Option.none : Option Jvm.ClassFile.FieldType)) ∈ lw_all := lw_g (lw_at lw_m5 88 rfl) rfl
theorem q1352 : (Jvm.Cond.instanceMethod ({ cls := "SafeCode$Program", name := "isClassBelow", desc := "(II)Z" } : Jvm.MethodName)) ∈ lw_all := lw_g (lw_at lw_m5 146 rfl) rfl
theorem q1353 : (Jvm.Cond.selects "SafeCode$Program" ({ cls := "SafeCode$Program", name := "isClassBelow", desc := "(II)Z" } : Jvm.MethodName) ({ cls := "SafeCode$Program", name := "isClassBelow", desc := "(II)Z" } : Jvm.MethodName)) ∈ lw_all := lw_g (lw_at lw_m5 147 rfl) rfl
theorem q1354 : (Jvm.Cond.code ({ cls := "SafeCode$Program", name := "isClassBelow", desc := "(II)Z" } : Jvm.MethodName) prog_9_method_3_code (4 : Nat) (Option.some Jvm.ClassFile.FieldType.boolean)) ∈ lw_all := lw_g (lw_at lw_m5 148 rfl) rfl
theorem q1421 : (Jvm.Cond.instanceMethod ({ cls := "SafeCode$Program", name := "goesOn", desc := "(I)Z" } : Jvm.MethodName)) ∈ lw_all := lw_g (lw_at lw_m5 215 rfl) rfl
theorem q1422 : (Jvm.Cond.selects "SafeCode$Program" ({ cls := "SafeCode$Program", name := "goesOn", desc := "(I)Z" } : Jvm.MethodName) ({ cls := "SafeCode$Program", name := "goesOn", desc := "(I)Z" } : Jvm.MethodName)) ∈ lw_all := lw_g (lw_at lw_m5 216 rfl) rfl
theorem q1423 : (Jvm.Cond.code ({ cls := "SafeCode$Program", name := "goesOn", desc := "(I)Z" } : Jvm.MethodName) prog_9_method_10_code (2 : Nat) (Option.some Jvm.ClassFile.FieldType.boolean)) ∈ lw_all := lw_g (lw_at lw_m5 217 rfl) rfl
theorem q1448 : (Jvm.Cond.instanceMethod ({ cls := "SafeCode$Program", name := "takes", desc := "(I)I" } : Jvm.MethodName)) ∈ lw_all := lw_g (lw_at lw_m6 2 rfl) rfl
theorem q1449 : (Jvm.Cond.selects "SafeCode$Program" ({ cls := "SafeCode$Program", name := "takes", desc := "(I)I" } : Jvm.MethodName) ({ cls := "SafeCode$Program", name := "takes", desc := "(I)I" } : Jvm.MethodName)) ∈ lw_all := lw_g (lw_at lw_m6 3 rfl) rfl
theorem q1450 : (Jvm.Cond.code ({ cls := "SafeCode$Program", name := "takes", desc := "(I)I" } : Jvm.MethodName) prog_9_method_12_code (4 : Nat) (Option.some Jvm.ClassFile.FieldType.int)) ∈ lw_all := lw_g (lw_at lw_m6 4 rfl) rfl
theorem q1452 : (Jvm.Cond.instanceMethod ({ cls := "SafeCode$Program", name := "leaves", desc := "(I)I" } : Jvm.MethodName)) ∈ lw_all := lw_g (lw_at lw_m6 6 rfl) rfl
theorem q1453 : (Jvm.Cond.selects "SafeCode$Program" ({ cls := "SafeCode$Program", name := "leaves", desc := "(I)I" } : Jvm.MethodName) ({ cls := "SafeCode$Program", name := "leaves", desc := "(I)I" } : Jvm.MethodName)) ∈ lw_all := lw_g (lw_at lw_m6 7 rfl) rfl
theorem q1454 : (Jvm.Cond.code ({ cls := "SafeCode$Program", name := "leaves", desc := "(I)I" } : Jvm.MethodName) prog_9_method_13_code (4 : Nat) (Option.some Jvm.ClassFile.FieldType.int)) ∈ lw_all := lw_g (lw_at lw_m6 8 rfl) rfl
theorem q1457 : (Jvm.Cond.instanceMethod ({ cls := "SafeCode$Program", name := "isJump", desc := "(I)Z" } : Jvm.MethodName)) ∈ lw_all := lw_g (lw_at lw_m6 11 rfl) rfl
theorem q1458 : (Jvm.Cond.selects "SafeCode$Program" ({ cls := "SafeCode$Program", name := "isJump", desc := "(I)Z" } : Jvm.MethodName) ({ cls := "SafeCode$Program", name := "isJump", desc := "(I)Z" } : Jvm.MethodName)) ∈ lw_all := lw_g (lw_at lw_m6 12 rfl) rfl
theorem q1459 : (Jvm.Cond.code ({ cls := "SafeCode$Program", name := "isJump", desc := "(I)Z" } : Jvm.MethodName) prog_9_method_11_code (2 : Nat) (Option.some Jvm.ClassFile.FieldType.boolean)) ∈ lw_all := lw_g (lw_at lw_m6 13 rfl) rfl
theorem q1474 : (Jvm.Cond.instanceMethod ({ cls := "SafeCode$Program", name := "join", desc := "(II)I" } : Jvm.MethodName)) ∈ lw_all := lw_g (lw_at lw_m6 28 rfl) rfl
theorem q1475 : (Jvm.Cond.selects "SafeCode$Program" ({ cls := "SafeCode$Program", name := "join", desc := "(II)I" } : Jvm.MethodName) ({ cls := "SafeCode$Program", name := "join", desc := "(II)I" } : Jvm.MethodName)) ∈ lw_all := lw_g (lw_at lw_m6 29 rfl) rfl
theorem q1476 : (Jvm.Cond.code ({ cls := "SafeCode$Program", name := "join", desc := "(II)I" } : Jvm.MethodName) prog_9_method_6_code (3 : Nat) (Option.some Jvm.ClassFile.FieldType.int)) ∈ lw_all := lw_g (lw_at lw_m6 30 rfl) rfl
theorem q1477 : (Jvm.Cond.methodLink "SafeCode$Program" (114 : Nat) ({ cls := "SafeCode$Program", name := "isBelow", desc := "(II)Z" } : Jvm.MethodName)) ∈ lw_all := lw_g (lw_at lw_m6 31 rfl) rfl
theorem q1478 : (Jvm.Cond.instanceMethod ({ cls := "SafeCode$Program", name := "isBelow", desc := "(II)Z" } : Jvm.MethodName)) ∈ lw_all := lw_g (lw_at lw_m6 32 rfl) rfl
theorem q1479 : (Jvm.Cond.selects "SafeCode$Program" ({ cls := "SafeCode$Program", name := "isBelow", desc := "(II)Z" } : Jvm.MethodName) ({ cls := "SafeCode$Program", name := "isBelow", desc := "(II)Z" } : Jvm.MethodName)) ∈ lw_all := lw_g (lw_at lw_m6 33 rfl) rfl
theorem q1480 : (Jvm.Cond.code ({ cls := "SafeCode$Program", name := "isBelow", desc := "(II)Z" } : Jvm.MethodName) prog_9_method_4_code (3 : Nat) (Option.some Jvm.ClassFile.FieldType.boolean)) ∈ lw_all := lw_g (lw_at lw_m6 34 rfl) rfl
theorem q1481 : (Jvm.Cond.methodLink "SafeCode$Program" (110 : Nat) ({ cls := "SafeCode$Program", name := "isClassBelow", desc := "(II)Z" } : Jvm.MethodName)) ∈ lw_all := lw_g (lw_at lw_m6 35 rfl) rfl
theorem q1482 : (Jvm.Cond.methodLink "SafeCode$Program" (117 : Nat) ({ cls := "SafeCode$Program", name := "classJoin", desc := "(II)I" } : Jvm.MethodName)) ∈ lw_all := lw_g (lw_at lw_m6 36 rfl) rfl
theorem q1483 : (Jvm.Cond.privateMethod ({ cls := "SafeCode$Program", name := "classJoin", desc := "(II)I" } : Jvm.MethodName)) ∈ lw_tbl := lw_at lw_m6 37 rfl
theorem q1484 : (Jvm.Cond.instanceMethod ({ cls := "SafeCode$Program", name := "classJoin", desc := "(II)I" } : Jvm.MethodName)) ∈ lw_all := lw_g (lw_at lw_m6 38 rfl) rfl
theorem q1485 : (Jvm.Cond.code ({ cls := "SafeCode$Program", name := "classJoin", desc := "(II)I" } : Jvm.MethodName) prog_9_method_5_code (4 : Nat) (Option.some Jvm.ClassFile.FieldType.int)) ∈ lw_all := lw_g (lw_at lw_m6 39 rfl) rfl
theorem q1506 : (Jvm.Cond.static ({ cls := "SafeCode$Program", name := "isArray", desc := "(I)Z" } : Jvm.MethodName)) ∈ lw_all := lw_g (lw_at lw_m6 60 rfl) rfl
theorem q1507 : (Jvm.Cond.code ({ cls := "SafeCode$Program", name := "isArray", desc := "(I)Z" } : Jvm.MethodName) prog_9_method_7_code (1 : Nat) (Option.some Jvm.ClassFile.FieldType.boolean)) ∈ lw_all := lw_g (lw_at lw_m6 61 rfl) rfl
theorem q1509 : (Jvm.Cond.static ({ cls := "SafeCode$Program", name := "element", desc := "(I)I" } : Jvm.MethodName)) ∈ lw_all := lw_g (lw_at lw_m6 63 rfl) rfl
theorem q1510 : (Jvm.Cond.code ({ cls := "SafeCode$Program", name := "element", desc := "(I)I" } : Jvm.MethodName) prog_9_method_8_code (1 : Nat) (Option.some Jvm.ClassFile.FieldType.int)) ∈ lw_all := lw_g (lw_at lw_m6 64 rfl) rfl
theorem q1845 : (Jvm.Cond.instanceMethod ({ cls := "SafeCode$Program", name := "method", desc := "(II)I" } : Jvm.MethodName)) ∈ lw_all := lw_g (lw_at lw_m7 159 rfl) rfl
theorem q1846 : (Jvm.Cond.selects "SafeCode$Program" ({ cls := "SafeCode$Program", name := "method", desc := "(II)I" } : Jvm.MethodName) ({ cls := "SafeCode$Program", name := "method", desc := "(II)I" } : Jvm.MethodName)) ∈ lw_all := lw_g (lw_at lw_m7 160 rfl) rfl
theorem q1847 : (Jvm.Cond.code ({ cls := "SafeCode$Program", name := "method", desc := "(II)I" } : Jvm.MethodName) prog_9_method_9_code (5 : Nat) (Option.some Jvm.ClassFile.FieldType.int)) ∈ lw_all := lw_g (lw_at lw_m7 161 rfl) rfl
theorem in_X14 : ∀ w ∈ wsX140, w ∈ lw_all := lw_in wsX140 [933, 935, 937, 939, 941, 943, 945, 947, 949, 951, 953, 955, 957, 959, 961, 963, 965, 967, 969, 971, 973, 975, 977, 979, 981, 983, 985, 987, 989, 991, 993, 995] (by decide +kernel) (by decide +kernel)
/-! SafeCodeModel -/
def RX15 : String := "SafeCodeModel"
def TX15 : u_T := fun k => match k with
  | 0 => ("SafeCodeModel", "program", "LSafeCodeModel$Program;", false)
  | 1 => ("SafeCodeModel", "spare", "LSafeCodeModel$Program;", false)
  | 2 => ("SafeCodeModel", "loaded", "Z", false)
  | 3 => ("SafeCodeModel", "bytes", "[B", true)
  | 4 => ("SafeCodeModel", "fed", "I", false)
  | 5 => ("SafeCodeModel", "allFed", "I", false)
  | 6 => ("SafeCodeModel", "text", "[B", true)
  | 7 => ("SafeCodeModel", "textLength", "I", false)
  | 8 => ("SafeCodeModel", "tokenFrom", "[I", true)
  | 9 => ("SafeCodeModel", "tokenTo", "[I", true)
  | 10 => ("SafeCodeModel", "tokens", "I", false)
  | 11 => ("SafeCodeModel", "at", "I", false)
  | 12 => ("SafeCodeModel", "faultAt", "I", false)
  | 13 => ("SafeCodeModel", "classToken", "[I", true)
  | 14 => ("SafeCodeModel", "fieldToken", "[I", true)
  | 15 => ("SafeCodeModel", "bodyToken", "[I", true)
  | 16 => ("SafeCodeModel", "resultToken", "[I", true)
  | 17 => ("SafeCodeModel", "labelToken", "[I", true)
  | 18 => ("SafeCodeModel", "labelCode", "[I", true)
  | 19 => ("SafeCodeModel", "labels", "I", false)
  | 20 => ("SafeCodeModel", "codeToken", "[I", true)
  | 21 => ("SafeCodeModel", "masks", "[I", true)
  | 22 => ("SafeCodeModel", "come", "[Z", true)
  | 23 => ("SafeCodeModel", "types", "[I", true)
  | 24 => ("SafeCodeModel", "type", "[I", true)
  | 25 => ("SafeCodeModel", "top", "I", false)
  | 26 => ("SafeCodeModel", "kind", "[B", true)
  | 27 => ("SafeCodeModel", "low", "[I", true)
  | 28 => ("SafeCodeModel", "high", "[I", true)
  | 29 => ("SafeCodeModel", "sites", "[J", true)
  | 30 => ("SafeCodeModel", "copy", "[I", true)
  | 31 => ("SafeCodeModel", "less", "[I", true)
  | 32 => ("SafeCodeModel", "under", "[I", true)
  | 33 => ("SafeCodeModel", "length", "[I", true)
  | 34 => ("SafeCodeModel", "sized", "[I", true)
  | 35 => ("SafeCodeModel", "due", "[Z", true)
  | 36 => ("SafeCodeModel", "changed", "Z", false)
  | 37 => ("SafeCodeModel", "valuesChanged", "Z", false)
  | 38 => ("SafeCodeModel", "went", "Z", false)
  | 39 => ("SafeCodeModel", "raised", "I", false)
  | 40 => ("SafeCodeModel", "thrown", "J", false)
  | 41 => ("SafeCodeModel", "locals", "[J", true)
  | 42 => ("SafeCodeModel", "stack", "[J", true)
  | 43 => ("SafeCodeModel", "heights", "[I", true)
  | 44 => ("SafeCodeModel", "places", "[I", true)
  | 45 => ("SafeCodeModel", "objectType", "[I", true)
  | 46 => ("SafeCodeModel", "objectSite", "[I", true)
  | 47 => ("SafeCodeModel", "objectAt", "[I", true)
  | 48 => ("SafeCodeModel", "objectSize", "[I", true)
  | 49 => ("SafeCodeModel", "cells", "[J", true)
  | 50 => ("SafeCodeModel", "in", "[I", true)
  | 51 => ("SafeCodeModel", "out", "[I", true)
  | 52 => ("SafeCodeModel", "depth", "I", false)
  | 53 => ("SafeCodeModel", "objects", "I", false)
  | 54 => ("SafeCodeModel", "used", "I", false)
  | 55 => ("SafeCodeModel", "inputs", "I", false)
  | 56 => ("SafeCodeModel", "read", "I", false)
  | 57 => ("SafeCodeModel", "written", "I", false)
  | 58 => ("SafeCodeModel", "steps", "I", false)
  | 59 => ("SafeCodeModel", "place", "I", false)
  | 60 => ("SafeCodeModel", "thrownSite", "I", false)
  | 61 => ("SafeCodeModel", "outcome", "I", false)
  | 62 => ("SafeCodeModel", "strays", "I", false)
  | _ => ("SafeCodeModel", "stray", "Z", false)
def tyX15 : Nat → FieldType := fun k => match k with
  | 0 => .object "SafeCodeModel$Program"
  | 1 => .object "SafeCodeModel$Program"
  | 2 => .boolean
  | 3 => .array .byte
  | 4 => .int
  | 5 => .int
  | 6 => .array .byte
  | 7 => .int
  | 8 => .array .int
  | 9 => .array .int
  | 10 => .int
  | 11 => .int
  | 12 => .int
  | 13 => .array .int
  | 14 => .array .int
  | 15 => .array .int
  | 16 => .array .int
  | 17 => .array .int
  | 18 => .array .int
  | 19 => .int
  | 20 => .array .int
  | 21 => .array .int
  | 22 => .array .boolean
  | 23 => .array .int
  | 24 => .array .int
  | 25 => .int
  | 26 => .array .byte
  | 27 => .array .int
  | 28 => .array .int
  | 29 => .array .long
  | 30 => .array .int
  | 31 => .array .int
  | 32 => .array .int
  | 33 => .array .int
  | 34 => .array .int
  | 35 => .array .boolean
  | 36 => .boolean
  | 37 => .boolean
  | 38 => .boolean
  | 39 => .int
  | 40 => .long
  | 41 => .array .long
  | 42 => .array .long
  | 43 => .array .int
  | 44 => .array .int
  | 45 => .array .int
  | 46 => .array .int
  | 47 => .array .int
  | 48 => .array .int
  | 49 => .array .long
  | 50 => .array .int
  | 51 => .array .int
  | 52 => .int
  | 53 => .int
  | 54 => .int
  | 55 => .int
  | 56 => .int
  | 57 => .int
  | 58 => .int
  | 59 => .int
  | 60 => .int
  | 61 => .int
  | 62 => .int
  | _ => .boolean
abbrev wsX150 : List Cond := u_ws RX15 TX15 64
theorem nmX15 : ∀ a, a < 64 → ∀ b, b < 64 → a ≠ b → (TX15 a).2.1 ≠ (TX15 b).2.1 := by decide +kernel
theorem tyX15_ok : ∀ k, k < 64 → parseFieldDescriptor (TX15 k).2.2.1 = some (tyX15 k) := by decide +kernel
abbrev cX15_init : ByteArray := prog_17_method_1_code
def yX15_init : MethodName := ⟨RX15, "<init>", "()V"⟩
abbrev cX15_feed : ByteArray := prog_17_method_3_code
def yX15_feed : MethodName := ⟨RX15, "feed", "(IIIII)I"⟩
abbrev cX15_word : ByteArray := prog_17_method_2_code
def yX15_word : MethodName := ⟨RX15, "word", "(I)V"⟩
abbrev cX15_end : ByteArray := prog_17_method_4_code
def yX15_end : MethodName := ⟨RX15, "end", "(I)Z"⟩
abbrev cX15_load : ByteArray := prog_17_method_122_code
def yX15_load : MethodName := ⟨RX15, "load", "()I"⟩
abbrev cX15_fault : ByteArray := prog_17_method_121_code
def yX15_fault : MethodName := ⟨RX15, "fault", "(LSafeCodeModel$Program;)I"⟩
abbrev cX15_cut : ByteArray := prog_17_method_5_code
def yX15_cut : MethodName := ⟨RX15, "cut", "()Z"⟩
abbrev cX15_isProgram : ByteArray := prog_17_method_20_code
def yX15_isProgram : MethodName := ⟨RX15, "isProgram", "()Z"⟩
abbrev cX15_is : ByteArray := prog_17_method_6_code
def yX15_is : MethodName := ⟨RX15, "is", "(ILjava/lang/String;)Z"⟩
abbrev cX15_takes : ByteArray := prog_17_method_19_code
def yX15_takes : MethodName := ⟨RX15, "takes", "(Z)Z"⟩
abbrev cX15_isClassName : ByteArray := prog_17_method_12_code
def yX15_isClassName : MethodName := ⟨RX15, "isClassName", "(I)Z"⟩
abbrev cX15_isName : ByteArray := prog_17_method_10_code
def yX15_isName : MethodName := ⟨RX15, "isName", "(IIII)Z"⟩
abbrev cX15_isMember : ByteArray := prog_17_method_21_code
def yX15_isMember : MethodName := ⟨RX15, "isMember", "()Z"⟩
abbrev cX15_isSmallName : ByteArray := prog_17_method_11_code
def yX15_isSmallName : MethodName := ⟨RX15, "isSmallName", "(I)Z"⟩
abbrev cX15_isType : ByteArray := prog_17_method_14_code
def yX15_isType : MethodName := ⟨RX15, "isType", "(I)Z"⟩
abbrev cX15_isArray : ByteArray := prog_17_method_13_code
def yX15_isArray : MethodName := ⟨RX15, "isArray", "(I)Z"⟩
abbrev cX15_isNumber : ByteArray := prog_17_method_17_code
def yX15_isNumber : MethodName := ⟨RX15, "isNumber", "(I)Z"⟩
abbrev cX15_number : ByteArray := prog_17_method_18_code
def yX15_number : MethodName := ⟨RX15, "number", "(I)J"⟩
abbrev cX15_isLine : ByteArray := prog_17_method_24_code
def yX15_isLine : MethodName := ⟨RX15, "isLine", "()Z"⟩
abbrev cX15_isLabel : ByteArray := prog_17_method_22_code
def yX15_isLabel : MethodName := ⟨RX15, "isLabel", "(I)Z"⟩
abbrev cX15_opOf : ByteArray := prog_17_method_23_code
def yX15_opOf : MethodName := ⟨RX15, "opOf", "(I)I"⟩
abbrev cX15_among : ByteArray := prog_17_method_9_code
def yX15_among : MethodName := ⟨RX15, "among", "(IILjava/lang/String;)I"⟩
abbrev cX15_isReference : ByteArray := prog_17_method_16_code
def yX15_isReference : MethodName := ⟨RX15, "isReference", "(I)Z"⟩
abbrev cX15_point : ByteArray := prog_17_method_15_code
def yX15_point : MethodName := ⟨RX15, "point", "(I)I"⟩
abbrev cX15_classNames : ByteArray := prog_17_method_33_code
def yX15_classNames : MethodName := ⟨RX15, "classNames", "(LSafeCodeModel$Program;)Z"⟩
abbrev cX15_classOfToken : ByteArray := prog_17_method_27_code
def yX15_classOfToken : MethodName := ⟨RX15, "classOfToken", "(LSafeCodeModel$Program;I)I"⟩
abbrev cX15_classOf : ByteArray := prog_17_method_26_code
def yX15_classOf : MethodName := ⟨RX15, "classOf", "(LSafeCodeModel$Program;II)I"⟩
abbrev cX15_classCount : ByteArray := prog_17_method_25_code
def yX15_classCount : MethodName := ⟨RX15, "classCount", "(LSafeCodeModel$Program;)I"⟩
abbrev cX15_isSame : ByteArray := prog_17_method_7_code
def yX15_isSame : MethodName := ⟨RX15, "isSame", "(IIII)Z"⟩
abbrev cX15_wrong : ByteArray := prog_17_method_32_code
def yX15_wrong : MethodName := ⟨RX15, "wrong", "(I)Z"⟩
abbrev cX15_behind : ByteArray := prog_17_method_30_code
def yX15_behind : MethodName := ⟨RX15, "behind", "(I)I"⟩
abbrev cX15_members : ByteArray := prog_17_method_36_code
def yX15_members : MethodName := ⟨RX15, "members", "(LSafeCodeModel$Program;)Z"⟩
abbrev cX15_field : ByteArray := prog_17_method_37_code
def yX15_field : MethodName := ⟨RX15, "field", "(LSafeCodeModel$Program;II)Z"⟩
abbrev cX15_fieldOf : ByteArray := prog_17_method_34_code
def yX15_fieldOf : MethodName := ⟨RX15, "fieldOf", "(LSafeCodeModel$Program;III)I"⟩
abbrev cX15_isAtOrBelow : ByteArray := prog_17_method_28_code
def yX15_isAtOrBelow : MethodName := ⟨RX15, "isAtOrBelow", "(LSafeCodeModel$Program;II)Z"⟩
abbrev cX15_typeOf : ByteArray := prog_17_method_29_code
def yX15_typeOf : MethodName := ⟨RX15, "typeOf", "(LSafeCodeModel$Program;I)I"⟩
abbrev cX15_body : ByteArray := prog_17_method_39_code
def yX15_body : MethodName := ⟨RX15, "body", "(LSafeCodeModel$Program;II)Z"⟩
abbrev cX15_bodyOf : ByteArray := prog_17_method_35_code
def yX15_bodyOf : MethodName := ⟨RX15, "bodyOf", "(LSafeCodeModel$Program;III)I"⟩
abbrev cX15_isSameRow : ByteArray := prog_17_method_38_code
def yX15_isSameRow : MethodName := ⟨RX15, "isSameRow", "(II)Z"⟩
abbrev cX15_isSameToken : ByteArray := prog_17_method_8_code
def yX15_isSameToken : MethodName := ⟨RX15, "isSameToken", "(II)Z"⟩
abbrev cX15_behindMember : ByteArray := prog_17_method_31_code
def yX15_behindMember : MethodName := ⟨RX15, "behindMember", "(I)I"⟩
abbrev cX15_lines : ByteArray := prog_17_method_40_code
def yX15_lines : MethodName := ⟨RX15, "lines", "(LSafeCodeModel$Program;)Z"⟩
abbrev cX15_linesOf : ByteArray := prog_17_method_42_code
def yX15_linesOf : MethodName := ⟨RX15, "linesOf", "(LSafeCodeModel$Program;I)Z"⟩
abbrev cX15_lineLength : ByteArray := prog_17_method_41_code
def yX15_lineLength : MethodName := ⟨RX15, "lineLength", "(I)I"⟩
abbrev cX15_label : ByteArray := prog_17_method_43_code
def yX15_label : MethodName := ⟨RX15, "label", "(I)I"⟩
abbrev cX15_catchLine : ByteArray := prog_17_method_45_code
def yX15_catchLine : MethodName := ⟨RX15, "catchLine", "(LSafeCodeModel$Program;III)Z"⟩
abbrev cX15_labelAt : ByteArray := prog_17_method_44_code
def yX15_labelAt : MethodName := ⟨RX15, "labelAt", "(I)I"⟩
abbrev cX15_code : ByteArray := prog_17_method_46_code
def yX15_code : MethodName := ⟨RX15, "code", "(LSafeCodeModel$Program;III)Z"⟩
abbrev cX15_thresholds : ByteArray := prog_17_method_50_code
def yX15_thresholds : MethodName := ⟨RX15, "thresholds", "(LSafeCodeModel$Program;J)V"⟩
abbrev cX15_threshold : ByteArray := prog_17_method_51_code
def yX15_threshold : MethodName := ⟨RX15, "threshold", "(LSafeCodeModel$Program;J)V"⟩
abbrev cX15_localStep : ByteArray := prog_17_method_47_code
def yX15_localStep : MethodName := ⟨RX15, "localStep", "(LSafeCodeModel$Program;III)Z"⟩
abbrev cX15_madeStep : ByteArray := prog_17_method_48_code
def yX15_madeStep : MethodName := ⟨RX15, "madeStep", "(LSafeCodeModel$Program;III)Z"⟩
abbrev cX15_reference : ByteArray := prog_17_method_49_code
def yX15_reference : MethodName := ⟨RX15, "reference", "(LSafeCodeModel$Program;III)Z"⟩
abbrev cX15_settled : ByteArray := prog_17_method_52_code
def yX15_settled : MethodName := ⟨RX15, "settled", "(LSafeCodeModel$Program;)Z"⟩
abbrev cX15_heights : ByteArray := prog_17_method_58_code
def yX15_heights : MethodName := ⟨RX15, "heights", "(LSafeCodeModel$Program;I)Z"⟩
abbrev cX15_goodHeights : ByteArray := prog_17_method_60_code
def yX15_goodHeights : MethodName := ⟨RX15, "goodHeights", "(LSafeCodeModel$Program;I)I"⟩
abbrev cX15_howMany : ByteArray := prog_17_method_53_code
def yX15_howMany : MethodName := ⟨RX15, "howMany", "(LSafeCodeModel$Program;I)I"⟩
abbrev cX15_leaves : ByteArray := prog_17_method_54_code
def yX15_leaves : MethodName := ⟨RX15, "leaves", "(LSafeCodeModel$Program;I)I"⟩
abbrev cX15_hasNext : ByteArray := prog_17_method_55_code
def yX15_hasNext : MethodName := ⟨RX15, "hasNext", "(I)Z"⟩
abbrev cX15_added : ByteArray := prog_17_method_59_code
def yX15_added : MethodName := ⟨RX15, "added", "(II)Z"⟩
abbrev cX15_hasLabel : ByteArray := prog_17_method_56_code
def yX15_hasLabel : MethodName := ⟨RX15, "hasLabel", "(I)Z"⟩
abbrev cX15_covers : ByteArray := prog_17_method_57_code
def yX15_covers : MethodName := ⟨RX15, "covers", "(LSafeCodeModel$Program;II)Z"⟩
abbrev cX15_types : ByteArray := prog_17_method_66_code
def yX15_types : MethodName := ⟨RX15, "types", "(LSafeCodeModel$Program;I)Z"⟩
abbrev cX15_typesOn : ByteArray := prog_17_method_68_code
def yX15_typesOn : MethodName := ⟨RX15, "typesOn", "(LSafeCodeModel$Program;I)Z"⟩
abbrev cX15_typesAt : ByteArray := prog_17_method_67_code
def yX15_typesAt : MethodName := ⟨RX15, "typesAt", "(LSafeCodeModel$Program;I)V"⟩
abbrev cX15_typesTo : ByteArray := prog_17_method_69_code
def yX15_typesTo : MethodName := ⟨RX15, "typesTo", "(LSafeCodeModel$Program;I)Z"⟩
abbrev cX15_joined : ByteArray := prog_17_method_65_code
def yX15_joined : MethodName := ⟨RX15, "joined", "(LSafeCodeModel$Program;II)I"⟩
abbrev cX15_isBelow : ByteArray := prog_17_method_64_code
def yX15_isBelow : MethodName := ⟨RX15, "isBelow", "(LSafeCodeModel$Program;II)Z"⟩
abbrev cX15_isClass : ByteArray := prog_17_method_61_code
def yX15_isClass : MethodName := ⟨RX15, "isClass", "(I)Z"⟩
abbrev cX15_typesBehind : ByteArray := prog_17_method_71_code
def yX15_typesBehind : MethodName := ⟨RX15, "typesBehind", "(LSafeCodeModel$Program;I)V"⟩
abbrev cX15_leave : ByteArray := prog_17_method_70_code
def yX15_leave : MethodName := ⟨RX15, "leave", "(I)V"⟩
abbrev cX15_elementOf : ByteArray := prog_17_method_72_code
def yX15_elementOf : MethodName := ⟨RX15, "elementOf", "(I)I"⟩
abbrev cX15_fits : ByteArray := prog_17_method_73_code
def yX15_fits : MethodName := ⟨RX15, "fits", "(LSafeCodeModel$Program;I)Z"⟩
abbrev cX15_isReferenceType : ByteArray := prog_17_method_63_code
def yX15_isReferenceType : MethodName := ⟨RX15, "isReferenceType", "(I)Z"⟩
abbrev cX15_isArrayType : ByteArray := prog_17_method_62_code
def yX15_isArrayType : MethodName := ⟨RX15, "isArrayType", "(I)Z"⟩
abbrev cX15_isElement : ByteArray := prog_17_method_74_code
def yX15_isElement : MethodName := ⟨RX15, "isElement", "(LSafeCodeModel$Program;II)Z"⟩
abbrev cX15_areArguments : ByteArray := prog_17_method_75_code
def yX15_areArguments : MethodName := ⟨RX15, "areArguments", "(LSafeCodeModel$Program;II)Z"⟩
abbrev cX15_prove : ByteArray := prog_17_method_92_code
def yX15_prove : MethodName := ⟨RX15, "prove", "(LSafeCodeModel$Program;)V"⟩
abbrev cX15_begin : ByteArray := prog_17_method_93_code
def yX15_begin : MethodName := ⟨RX15, "begin", "(LSafeCodeModel$Program;I)V"⟩
abbrev cX15_clear : ByteArray := prog_17_method_76_code
def yX15_clear : MethodName := ⟨RX15, "clear", "(I)V"⟩
abbrev cX15_bring : ByteArray := prog_17_method_79_code
def yX15_bring : MethodName := ⟨RX15, "bring", "(LSafeCodeModel$Program;I)V"⟩
abbrev cX15_joinSlot : ByteArray := prog_17_method_80_code
def yX15_joinSlot : MethodName := ⟨RX15, "joinSlot", "(LSafeCodeModel$Program;II)Z"⟩
abbrev cX15_look : ByteArray := prog_17_method_94_code
def yX15_look : MethodName := ⟨RX15, "look", "(LSafeCodeModel$Program;I)V"⟩
abbrev cX15_fetch : ByteArray := prog_17_method_78_code
def yX15_fetch : MethodName := ⟨RX15, "fetch", "(LSafeCodeModel$Program;I)V"⟩
abbrev cX15_way : ByteArray := prog_17_method_97_code
def yX15_way : MethodName := ⟨RX15, "way", "(LSafeCodeModel$Program;I)Z"⟩
abbrev cX15_keeps : ByteArray := prog_17_method_98_code
def yX15_keeps : MethodName := ⟨RX15, "keeps", "(IJ)Z"⟩
abbrev cX15_ordered : ByteArray := prog_17_method_99_code
def yX15_ordered : MethodName := ⟨RX15, "ordered", "(LSafeCodeModel$Program;III)Z"⟩
abbrev cX15_notBelow : ByteArray := prog_17_method_82_code
def yX15_notBelow : MethodName := ⟨RX15, "notBelow", "(LSafeCodeModel$Program;J)I"⟩
abbrev cX15_notAbove : ByteArray := prog_17_method_81_code
def yX15_notAbove : MethodName := ⟨RX15, "notAbove", "(LSafeCodeModel$Program;J)I"⟩
abbrev cX15_alike : ByteArray := prog_17_method_100_code
def yX15_alike : MethodName := ⟨RX15, "alike", "(II)Z"⟩
abbrev cX15_apart : ByteArray := prog_17_method_101_code
def yX15_apart : MethodName := ⟨RX15, "apart", "(LSafeCodeModel$Program;II)Z"⟩
abbrev cX15_without : ByteArray := prog_17_method_102_code
def yX15_without : MethodName := ⟨RX15, "without", "(LSafeCodeModel$Program;II)Z"⟩
abbrev cX15_rangeToLocal : ByteArray := prog_17_method_103_code
def yX15_rangeToLocal : MethodName := ⟨RX15, "rangeToLocal", "(I)Z"⟩
abbrev cX15_goOn : ByteArray := prog_17_method_95_code
def yX15_goOn : MethodName := ⟨RX15, "goOn", "(LSafeCodeModel$Program;I)V"⟩
abbrev cX15_contrary : ByteArray := prog_17_method_96_code
def yX15_contrary : MethodName := ⟨RX15, "contrary", "(I)I"⟩
abbrev cX15_goesBehind : ByteArray := prog_17_method_105_code
def yX15_goesBehind : MethodName := ⟨RX15, "goesBehind", "(LSafeCodeModel$Program;I)Z"⟩
abbrev cX15_leaveRange : ByteArray := prog_17_method_84_code
def yX15_leaveRange : MethodName := ⟨RX15, "leaveRange", "(LSafeCodeModel$Program;JJ)V"⟩
abbrev cX15_range : ByteArray := prog_17_method_83_code
def yX15_range : MethodName := ⟨RX15, "range", "(LSafeCodeModel$Program;IJJ)V"⟩
abbrev cX15_leaveSites : ByteArray := prog_17_method_85_code
def yX15_leaveSites : MethodName := ⟨RX15, "leaveSites", "(J)V"⟩
abbrev cX15_put : ByteArray := prog_17_method_77_code
def yX15_put : MethodName := ⟨RX15, "put", "(II)V"⟩
abbrev cX15_changing : ByteArray := prog_17_method_104_code
def yX15_changing : MethodName := ⟨RX15, "changing", "(I)V"⟩
abbrev cX15_made : ByteArray := prog_17_method_112_code
def yX15_made : MethodName := ⟨RX15, "made", "(LSafeCodeModel$Program;I)Z"⟩
abbrev cX15_joinNothing : ByteArray := prog_17_method_89_code
def yX15_joinNothing : MethodName := ⟨RX15, "joinNothing", "(LSafeCodeModel$Program;II)V"⟩
abbrev cX15_joinRange : ByteArray := prog_17_method_86_code
def yX15_joinRange : MethodName := ⟨RX15, "joinRange", "(LSafeCodeModel$Program;III)V"⟩
abbrev cX15_joinSites : ByteArray := prog_17_method_87_code
def yX15_joinSites : MethodName := ⟨RX15, "joinSites", "(LSafeCodeModel$Program;IJ)V"⟩
abbrev cX15_madeArray : ByteArray := prog_17_method_113_code
def yX15_madeArray : MethodName := ⟨RX15, "madeArray", "(LSafeCodeModel$Program;I)Z"⟩
abbrev cX15_lengthOf : ByteArray := prog_17_method_115_code
def yX15_lengthOf : MethodName := ⟨RX15, "lengthOf", "(LSafeCodeModel$Program;)Z"⟩
abbrev cX15_dereference : ByteArray := prog_17_method_114_code
def yX15_dereference : MethodName := ⟨RX15, "dereference", "(I)Z"⟩
abbrev cX15_leaveValues : ByteArray := prog_17_method_90_code
def yX15_leaveValues : MethodName := ⟨RX15, "leaveValues", "(LSafeCodeModel$Program;IIJ)Z"⟩
abbrev cX15_element : ByteArray := prog_17_method_116_code
def yX15_element : MethodName := ⟨RX15, "element", "(LSafeCodeModel$Program;Z)Z"⟩
abbrev cX15_index : ByteArray := prog_17_method_117_code
def yX15_index : MethodName := ⟨RX15, "index", "(LSafeCodeModel$Program;II)Z"⟩
abbrev cX15_joinSlotInto : ByteArray := prog_17_method_88_code
def yX15_joinSlotInto : MethodName := ⟨RX15, "joinSlotInto", "(LSafeCodeModel$Program;II)V"⟩
abbrev cX15_sitesBelow : ByteArray := prog_17_method_91_code
def yX15_sitesBelow : MethodName := ⟨RX15, "sitesBelow", "(LSafeCodeModel$Program;I)J"⟩
abbrev cX15_fieldStep : ByteArray := prog_17_method_118_code
def yX15_fieldStep : MethodName := ⟨RX15, "fieldStep", "(LSafeCodeModel$Program;IZ)Z"⟩
abbrev cX15_ofType : ByteArray := prog_17_method_119_code
def yX15_ofType : MethodName := ⟨RX15, "ofType", "(LSafeCodeModel$Program;IZ)Z"⟩
abbrev cX15_call : ByteArray := prog_17_method_120_code
def yX15_call : MethodName := ⟨RX15, "call", "(LSafeCodeModel$Program;IZ)Z"⟩
abbrev cX15_given : ByteArray := prog_17_method_106_code
def yX15_given : MethodName := ⟨RX15, "given", "(LSafeCodeModel$Program;IZ)Z"⟩
abbrev cX15_numbers : ByteArray := prog_17_method_107_code
def yX15_numbers : MethodName := ⟨RX15, "numbers", "(LSafeCodeModel$Program;I)Z"⟩
abbrev cX15_product : ByteArray := prog_17_method_108_code
def yX15_product : MethodName := ⟨RX15, "product", "(LSafeCodeModel$Program;JJJJ)V"⟩
abbrev cX15_quotient : ByteArray := prog_17_method_109_code
def yX15_quotient : MethodName := ⟨RX15, "quotient", "(LSafeCodeModel$Program;JJJJ)Z"⟩
abbrev cX15_raisedByZero : ByteArray := prog_17_method_110_code
def yX15_raisedByZero : MethodName := ⟨RX15, "raisedByZero", "(JJ)V"⟩
abbrev cX15_rest : ByteArray := prog_17_method_111_code
def yX15_rest : MethodName := ⟨RX15, "rest", "(LSafeCodeModel$Program;JJJJ)Z"⟩
abbrev cX15_faultAt : ByteArray := prog_17_method_123_code
def yX15_faultAt : MethodName := ⟨RX15, "faultAt", "()I"⟩
abbrev cX15_size : ByteArray := prog_17_method_124_code
def yX15_size : MethodName := ⟨RX15, "size", "(I)I"⟩
abbrev cX15_errors : ByteArray := prog_17_method_126_code
def yX15_errors : MethodName := ⟨RX15, "errors", "(I)I"⟩
abbrev cX15_isCode : ByteArray := prog_17_method_125_code
def yX15_isCode : MethodName := ⟨RX15, "isCode", "(I)Z"⟩
abbrev cX15_escapes : ByteArray := prog_17_method_127_code
def yX15_escapes : MethodName := ⟨RX15, "escapes", "(I)J"⟩
abbrev cX15_ends : ByteArray := prog_17_method_128_code
def yX15_ends : MethodName := ⟨RX15, "ends", "()J"⟩
abbrev cX15_kind : ByteArray := prog_17_method_130_code
def yX15_kind : MethodName := ⟨RX15, "kind", "(II)I"⟩
abbrev cX15_slot : ByteArray := prog_17_method_129_code
def yX15_slot : MethodName := ⟨RX15, "slot", "(II)I"⟩
abbrev cX15_low : ByteArray := prog_17_method_131_code
def yX15_low : MethodName := ⟨RX15, "low", "(II)I"⟩
abbrev cX15_high : ByteArray := prog_17_method_132_code
def yX15_high : MethodName := ⟨RX15, "high", "(II)I"⟩
abbrev cX15_sites : ByteArray := prog_17_method_133_code
def yX15_sites : MethodName := ⟨RX15, "sites", "(II)J"⟩
abbrev cX15_fact : ByteArray := prog_17_method_134_code
def yX15_fact : MethodName := ⟨RX15, "fact", "(III)I"⟩
abbrev cX15_lengths : ByteArray := prog_17_method_135_code
def yX15_lengths : MethodName := ⟨RX15, "lengths", "(II)I"⟩
abbrev cX15_input : ByteArray := prog_17_method_136_code
def yX15_input : MethodName := ⟨RX15, "input", "(I)Z"⟩
abbrev cX15_run : ByteArray := prog_17_method_137_code
def yX15_run : MethodName := ⟨RX15, "run", "(I)I"⟩
abbrev cX15_enter : ByteArray := prog_17_method_138_code
def yX15_enter : MethodName := ⟨RX15, "enter", "(I)V"⟩
abbrev cX15_holds : ByteArray := prog_17_method_146_code
def yX15_holds : MethodName := ⟨RX15, "holds", "(I)Z"⟩
abbrev cX15_local : ByteArray := prog_17_method_139_code
def yX15_local : MethodName := ⟨RX15, "local", "(I)J"⟩
abbrev cX15_isHeld : ByteArray := prog_17_method_147_code
def yX15_isHeld : MethodName := ⟨RX15, "isHeld", "(IJ)Z"⟩
abbrev cX15_isInt : ByteArray := prog_17_method_142_code
def yX15_isInt : MethodName := ⟨RX15, "isInt", "(J)Z"⟩
abbrev cX15_siteOf : ByteArray := prog_17_method_148_code
def yX15_siteOf : MethodName := ⟨RX15, "siteOf", "(J)I"⟩
abbrev cX15_objectOf : ByteArray := prog_17_method_144_code
def yX15_objectOf : MethodName := ⟨RX15, "objectOf", "(J)I"⟩
abbrev cX15_isArrayValue : ByteArray := prog_17_method_145_code
def yX15_isArrayValue : MethodName := ⟨RX15, "isArrayValue", "(J)Z"⟩
abbrev cX15_isObject : ByteArray := prog_17_method_143_code
def yX15_isObject : MethodName := ⟨RX15, "isObject", "(J)Z"⟩
abbrev cX15_step : ByteArray := prog_17_method_154_code
def yX15_step : MethodName := ⟨RX15, "step", "(I)V"⟩
abbrev cX15_push : ByteArray := prog_17_method_141_code
def yX15_push : MethodName := ⟨RX15, "push", "(J)V"⟩
abbrev cX15_pop : ByteArray := prog_17_method_140_code
def yX15_pop : MethodName := ⟨RX15, "pop", "()J"⟩
abbrev cX15_reckon : ByteArray := prog_17_method_155_code
def yX15_reckon : MethodName := ⟨RX15, "reckon", "(II)V"⟩
abbrev cX15_raise : ByteArray := prog_17_method_151_code
def yX15_raise : MethodName := ⟨RX15, "raise", "(II)V"⟩
abbrev cX15_object : ByteArray := prog_17_method_150_code
def yX15_object : MethodName := ⟨RX15, "object", "(IIII)J"⟩
abbrev cX15_ended : ByteArray := prog_17_method_149_code
def yX15_ended : MethodName := ⟨RX15, "ended", "(II)V"⟩
abbrev cX15_toss : ByteArray := prog_17_method_152_code
def yX15_toss : MethodName := ⟨RX15, "toss", "(JI)V"⟩
abbrev cX15_next : ByteArray := prog_17_method_153_code
def yX15_next : MethodName := ⟨RX15, "next", "()V"⟩
abbrev cX15_branch : ByteArray := prog_17_method_156_code
def yX15_branch : MethodName := ⟨RX15, "branch", "(II)V"⟩
abbrev cX15_objectStep : ByteArray := prog_17_method_157_code
def yX15_objectStep : MethodName := ⟨RX15, "objectStep", "(III)V"⟩
abbrev cX15_make : ByteArray := prog_17_method_158_code
def yX15_make : MethodName := ⟨RX15, "make", "(III)V"⟩
abbrev cX15_elementStep : ByteArray := prog_17_method_159_code
def yX15_elementStep : MethodName := ⟨RX15, "elementStep", "(II)V"⟩
abbrev cX15_callStep : ByteArray := prog_17_method_160_code
def yX15_callStep : MethodName := ⟨RX15, "callStep", "(III)V"⟩
abbrev cX15_steps : ByteArray := prog_17_method_161_code
def yX15_steps : MethodName := ⟨RX15, "steps", "()I"⟩
abbrev cX15_place : ByteArray := prog_17_method_162_code
def yX15_place : MethodName := ⟨RX15, "place", "()I"⟩
abbrev cX15_thrown : ByteArray := prog_17_method_163_code
def yX15_thrown : MethodName := ⟨RX15, "thrown", "()I"⟩
abbrev cX15_written : ByteArray := prog_17_method_164_code
def yX15_written : MethodName := ⟨RX15, "written", "()I"⟩
abbrev cX15_out : ByteArray := prog_17_method_165_code
def yX15_out : MethodName := ⟨RX15, "out", "(I)I"⟩
abbrev cX15_strays : ByteArray := prog_17_method_166_code
def yX15_strays : MethodName := ⟨RX15, "strays", "()I"⟩
theorem q266 : (Jvm.Cond.initialized "SafeCodeModel") ∈ lw_all := lw_g (lw_at lw_m1 20 rfl) rfl
theorem q2064 : (Jvm.Cond.instantiable "SafeCodeModel" (64 : Nat)) ∈ lw_all := lw_g (lw_at lw_m8 138 rfl) rfl
theorem q2066 : (Jvm.Cond.instanceMethod ({ cls := "SafeCodeModel", name := "<init>", desc := "()V" } : Jvm.MethodName)) ∈ lw_all := lw_g (lw_at lw_m8 140 rfl) rfl
theorem q2067 : (Jvm.Cond.code ({ cls := "SafeCodeModel", name := "<init>", desc := "()V" } : Jvm.MethodName) prog_17_method_1_code (1 : Nat) (Option.none : Option Jvm.ClassFile.FieldType)) ∈ lw_all := lw_g (lw_at lw_m8 141 rfl) rfl
theorem q2068 : (Jvm.Cond.methodLink "SafeCodeModel" (3 : Nat) ({ cls := "java/lang/Object", name := "<init>", desc := "()V" } : Jvm.MethodName)) ∈ lw_all := lw_g (lw_at lw_m8 142 rfl) rfl
theorem q2069 : (Jvm.Cond.classLink "SafeCodeModel" (9 : Nat) "SafeCodeModel$Program") ∈ lw_all := lw_g (lw_at lw_m8 143 rfl) rfl
theorem q2071 : (Jvm.Cond.methodLinkNest "SafeCodeModel" (11 : Nat) ({ cls := "SafeCodeModel$Program", name := "<init>", desc := "()V" } : Jvm.MethodName) "SafeCodeModel") ∈ lw_tbl := lw_at lw_m8 145 rfl
theorem q2075 : (Jvm.Cond.fieldLink "SafeCodeModel" (267 : Nat) "SafeCodeModel$Program" "classes" "I") ∈ lw_all := lw_g (lw_at lw_m8 149 rfl) rfl
theorem q2076 : (Jvm.Cond.fieldLink "SafeCodeModel" (293 : Nat) "SafeCodeModel$Program" "fields" "I") ∈ lw_all := lw_g (lw_at lw_m8 150 rfl) rfl
theorem q2077 : (Jvm.Cond.fieldLink "SafeCodeModel" (303 : Nat) "SafeCodeModel$Program" "bodies" "I") ∈ lw_all := lw_g (lw_at lw_m8 151 rfl) rfl
theorem q2078 : (Jvm.Cond.fieldLink "SafeCodeModel" (353 : Nat) "SafeCodeModel$Program" "codes" "I") ∈ lw_all := lw_g (lw_at lw_m8 152 rfl) rfl
theorem q2079 : (Jvm.Cond.fieldLink "SafeCodeModel" (356 : Nat) "SafeCodeModel$Program" "news" "I") ∈ lw_all := lw_g (lw_at lw_m8 153 rfl) rfl
theorem q2080 : (Jvm.Cond.fieldLink "SafeCodeModel" (359 : Nat) "SafeCodeModel$Program" "catches" "I") ∈ lw_all := lw_g (lw_at lw_m8 154 rfl) rfl
theorem q2081 : (Jvm.Cond.fieldLink "SafeCodeModel" (453 : Nat) "SafeCodeModel$Program" "main" "I") ∈ lw_all := lw_g (lw_at lw_m8 155 rfl) rfl
theorem q2082 : (Jvm.Cond.fieldLink "SafeCodeModel" (362 : Nat) "SafeCodeModel$Program" "thresholds" "I") ∈ lw_all := lw_g (lw_at lw_m8 156 rfl) rfl
theorem q2084 : (Jvm.Cond.fieldLink "SafeCodeModel" (280 : Nat) "SafeCodeModel$Program" "above" "[I") ∈ lw_all := lw_g (lw_at lw_m8 158 rfl) rfl
theorem q2086 : (Jvm.Cond.fieldLink "SafeCodeModel" (444 : Nat) "SafeCodeModel$Program" "objectFields" "[I") ∈ lw_all := lw_g (lw_at lw_m8 160 rfl) rfl
theorem q2088 : (Jvm.Cond.fieldLink "SafeCodeModel" (296 : Nat) "SafeCodeModel$Program" "fieldClass" "[I") ∈ lw_all := lw_g (lw_at lw_m8 162 rfl) rfl
theorem q2090 : (Jvm.Cond.fieldLink "SafeCodeModel" (324 : Nat) "SafeCodeModel$Program" "fieldType" "[I") ∈ lw_all := lw_g (lw_at lw_m8 164 rfl) rfl
theorem q2092 : (Jvm.Cond.fieldLink "SafeCodeModel" (447 : Nat) "SafeCodeModel$Program" "fieldPlace" "[I") ∈ lw_all := lw_g (lw_at lw_m8 166 rfl) rfl
theorem q2094 : (Jvm.Cond.fieldLink "SafeCodeModel" (306 : Nat) "SafeCodeModel$Program" "bodyClass" "[I") ∈ lw_all := lw_g (lw_at lw_m8 168 rfl) rfl
theorem q2096 : (Jvm.Cond.fieldLink "SafeCodeModel" (334 : Nat) "SafeCodeModel$Program" "bodyIsMethod" "[Z") ∈ lw_all := lw_g (lw_at lw_m8 170 rfl) rfl
theorem q2098 : (Jvm.Cond.fieldLink "SafeCodeModel" (348 : Nat) "SafeCodeModel$Program" "parameters" "[I") ∈ lw_all := lw_g (lw_at lw_m8 172 rfl) rfl
theorem q2100 : (Jvm.Cond.fieldLink "SafeCodeModel" (340 : Nat) "SafeCodeModel$Program" "parameterType" "[I") ∈ lw_all := lw_g (lw_at lw_m8 174 rfl) rfl
theorem q2102 : (Jvm.Cond.fieldLink "SafeCodeModel" (343 : Nat) "SafeCodeModel$Program" "result" "[I") ∈ lw_all := lw_g (lw_at lw_m8 176 rfl) rfl
theorem q2104 : (Jvm.Cond.fieldLink "SafeCodeModel" (351 : Nat) "SafeCodeModel$Program" "locals" "[I") ∈ lw_all := lw_g (lw_at lw_m8 178 rfl) rfl
theorem q2106 : (Jvm.Cond.fieldLink "SafeCodeModel" (369 : Nat) "SafeCodeModel$Program" "first" "[I") ∈ lw_all := lw_g (lw_at lw_m8 180 rfl) rfl
theorem q2108 : (Jvm.Cond.fieldLink "SafeCodeModel" (378 : Nat) "SafeCodeModel$Program" "end" "[I") ∈ lw_all := lw_g (lw_at lw_m8 182 rfl) rfl
theorem q2110 : (Jvm.Cond.fieldLink "SafeCodeModel" (450 : Nat) "SafeCodeModel$Program" "meant" "[I") ∈ lw_all := lw_g (lw_at lw_m8 184 rfl) rfl
theorem q2112 : (Jvm.Cond.fieldLink "SafeCodeModel" (391 : Nat) "SafeCodeModel$Program" "op" "[I") ∈ lw_all := lw_g (lw_at lw_m8 186 rfl) rfl
theorem q2114 : (Jvm.Cond.fieldLink "SafeCodeModel" (414 : Nat) "SafeCodeModel$Program" "a" "[I") ∈ lw_all := lw_g (lw_at lw_m8 188 rfl) rfl
theorem q2116 : (Jvm.Cond.fieldLink "SafeCodeModel" (417 : Nat) "SafeCodeModel$Program" "b" "[I") ∈ lw_all := lw_g (lw_at lw_m8 190 rfl) rfl
theorem q2118 : (Jvm.Cond.fieldLink "SafeCodeModel" (412 : Nat) "SafeCodeModel$Program" "body" "[I") ∈ lw_all := lw_g (lw_at lw_m8 192 rfl) rfl
theorem q2120 : (Jvm.Cond.fieldLink "SafeCodeModel" (474 : Nat) "SafeCodeModel$Program" "height" "[I") ∈ lw_all := lw_g (lw_at lw_m8 194 rfl) rfl
theorem q2122 : (Jvm.Cond.fieldLink "SafeCodeModel" (432 : Nat) "SafeCodeModel$Program" "siteType" "[I") ∈ lw_all := lw_g (lw_at lw_m8 196 rfl) rfl
theorem q2124 : (Jvm.Cond.fieldLink "SafeCodeModel" (397 : Nat) "SafeCodeModel$Program" "catchBody" "[I") ∈ lw_all := lw_g (lw_at lw_m8 198 rfl) rfl
theorem q2126 : (Jvm.Cond.fieldLink "SafeCodeModel" (400 : Nat) "SafeCodeModel$Program" "catchFrom" "[I") ∈ lw_all := lw_g (lw_at lw_m8 200 rfl) rfl
theorem q2128 : (Jvm.Cond.fieldLink "SafeCodeModel" (403 : Nat) "SafeCodeModel$Program" "catchTo" "[I") ∈ lw_all := lw_g (lw_at lw_m8 202 rfl) rfl
theorem q2130 : (Jvm.Cond.fieldLink "SafeCodeModel" (406 : Nat) "SafeCodeModel$Program" "catchAt" "[I") ∈ lw_all := lw_g (lw_at lw_m8 204 rfl) rfl
theorem q2132 : (Jvm.Cond.fieldLink "SafeCodeModel" (409 : Nat) "SafeCodeModel$Program" "catchClass" "[I") ∈ lw_all := lw_g (lw_at lw_m8 206 rfl) rfl
theorem q2134 : (Jvm.Cond.fieldLink "SafeCodeModel" (438 : Nat) "SafeCodeModel$Program" "threshold" "[I") ∈ lw_all := lw_g (lw_at lw_m8 208 rfl) rfl
theorem q2136 : (Jvm.Cond.fieldLink "SafeCodeModel" (539 : Nat) "SafeCodeModel$Program" "reached" "[Z") ∈ lw_all := lw_g (lw_at lw_m8 210 rfl) rfl
theorem q2138 : (Jvm.Cond.fieldLink "SafeCodeModel" (529 : Nat) "SafeCodeModel$Program" "kind" "[B") ∈ lw_all := lw_g (lw_at lw_m8 212 rfl) rfl
theorem q2140 : (Jvm.Cond.fieldLink "SafeCodeModel" (530 : Nat) "SafeCodeModel$Program" "low" "[I") ∈ lw_all := lw_g (lw_at lw_m8 214 rfl) rfl
theorem q2142 : (Jvm.Cond.fieldLink "SafeCodeModel" (531 : Nat) "SafeCodeModel$Program" "high" "[I") ∈ lw_all := lw_g (lw_at lw_m8 216 rfl) rfl
theorem q2144 : (Jvm.Cond.fieldLink "SafeCodeModel" (532 : Nat) "SafeCodeModel$Program" "sites" "[J") ∈ lw_all := lw_g (lw_at lw_m8 218 rfl) rfl
theorem q2146 : (Jvm.Cond.fieldLink "SafeCodeModel" (533 : Nat) "SafeCodeModel$Program" "copy" "[B") ∈ lw_all := lw_g (lw_at lw_m8 220 rfl) rfl
theorem q2148 : (Jvm.Cond.fieldLink "SafeCodeModel" (535 : Nat) "SafeCodeModel$Program" "less" "[I") ∈ lw_all := lw_g (lw_at lw_m8 222 rfl) rfl
theorem q2150 : (Jvm.Cond.fieldLink "SafeCodeModel" (536 : Nat) "SafeCodeModel$Program" "under" "[I") ∈ lw_all := lw_g (lw_at lw_m8 224 rfl) rfl
theorem q2152 : (Jvm.Cond.fieldLink "SafeCodeModel" (537 : Nat) "SafeCodeModel$Program" "length" "[I") ∈ lw_all := lw_g (lw_at lw_m8 226 rfl) rfl
theorem q2154 : (Jvm.Cond.fieldLink "SafeCodeModel" (538 : Nat) "SafeCodeModel$Program" "sized" "[I") ∈ lw_all := lw_g (lw_at lw_m8 228 rfl) rfl
theorem q2156 : (Jvm.Cond.fieldLink "SafeCodeModel" (601 : Nat) "SafeCodeModel$Program" "raises" "[I") ∈ lw_all := lw_g (lw_at lw_m8 230 rfl) rfl
theorem q2158 : (Jvm.Cond.fieldLink "SafeCodeModel" (604 : Nat) "SafeCodeModel$Program" "escapes" "[J") ∈ lw_all := lw_g (lw_at lw_m8 232 rfl) rfl
theorem q2160 : (Jvm.Cond.fieldLink "SafeCodeModel" (576 : Nat) "SafeCodeModel$Program" "valueKind" "[B") ∈ lw_all := lw_g (lw_at lw_m8 234 rfl) rfl
theorem q2162 : (Jvm.Cond.fieldLink "SafeCodeModel" (579 : Nat) "SafeCodeModel$Program" "valueLow" "[I") ∈ lw_all := lw_g (lw_at lw_m8 236 rfl) rfl
theorem q2164 : (Jvm.Cond.fieldLink "SafeCodeModel" (582 : Nat) "SafeCodeModel$Program" "valueHigh" "[I") ∈ lw_all := lw_g (lw_at lw_m8 238 rfl) rfl
theorem q2166 : (Jvm.Cond.fieldLink "SafeCodeModel" (588 : Nat) "SafeCodeModel$Program" "valueSites" "[J") ∈ lw_all := lw_g (lw_at lw_m9 0 rfl) rfl
theorem q2168 : (Jvm.Cond.fieldLink "SafeCodeModel" (607 : Nat) "SafeCodeModel$Program" "canEnd" "[Z") ∈ lw_all := lw_g (lw_at lw_m9 2 rfl) rfl
theorem q2170 : (Jvm.Cond.fieldLink "SafeCodeModel" (610 : Nat) "SafeCodeModel$Program" "begun" "[Z") ∈ lw_all := lw_g (lw_at lw_m9 4 rfl) rfl
theorem q2172 : (Jvm.Cond.fieldLink "SafeCodeModel" (613 : Nat) "SafeCodeModel$Program" "throwsSites" "[J") ∈ lw_all := lw_g (lw_at lw_m9 6 rfl) rfl
theorem q2280 : (Jvm.Cond.fieldLink "SafeCodeModel" (12 : Nat) "SafeCodeModel" "program" "LSafeCodeModel$Program;") ∈ lw_all := lw_g (lw_at lw_m9 114 rfl) rfl
theorem q2281 : (Jvm.Cond.fieldLink "SafeCodeModel" (16 : Nat) "SafeCodeModel" "spare" "LSafeCodeModel$Program;") ∈ lw_all := lw_g (lw_at lw_m9 115 rfl) rfl
theorem q2282 : (Jvm.Cond.fieldLink "SafeCodeModel" (794 : Nat) "SafeCodeModel" "loaded" "Z") ∈ lw_all := lw_g (lw_at lw_m9 116 rfl) rfl
theorem q2283 : (Jvm.Cond.fieldLink "SafeCodeModel" (19 : Nat) "SafeCodeModel" "bytes" "[B") ∈ lw_all := lw_g (lw_at lw_m9 117 rfl) rfl
theorem q2284 : (Jvm.Cond.fieldLink "SafeCodeModel" (141 : Nat) "SafeCodeModel" "fed" "I") ∈ lw_all := lw_g (lw_at lw_m9 118 rfl) rfl
theorem q2285 : (Jvm.Cond.fieldLink "SafeCodeModel" (144 : Nat) "SafeCodeModel" "allFed" "I") ∈ lw_all := lw_g (lw_at lw_m9 119 rfl) rfl
theorem q2286 : (Jvm.Cond.fieldLink "SafeCodeModel" (23 : Nat) "SafeCodeModel" "text" "[B") ∈ lw_all := lw_g (lw_at lw_m9 120 rfl) rfl
theorem q2287 : (Jvm.Cond.fieldLink "SafeCodeModel" (152 : Nat) "SafeCodeModel" "textLength" "I") ∈ lw_all := lw_g (lw_at lw_m9 121 rfl) rfl
theorem q2288 : (Jvm.Cond.fieldLink "SafeCodeModel" (26 : Nat) "SafeCodeModel" "tokenFrom" "[I") ∈ lw_all := lw_g (lw_at lw_m9 122 rfl) rfl
theorem q2289 : (Jvm.Cond.fieldLink "SafeCodeModel" (30 : Nat) "SafeCodeModel" "tokenTo" "[I") ∈ lw_all := lw_g (lw_at lw_m9 123 rfl) rfl
theorem q2290 : (Jvm.Cond.fieldLink "SafeCodeModel" (155 : Nat) "SafeCodeModel" "tokens" "I") ∈ lw_all := lw_g (lw_at lw_m9 124 rfl) rfl
theorem q2291 : (Jvm.Cond.fieldLink "SafeCodeModel" (194 : Nat) "SafeCodeModel" "at" "I") ∈ lw_all := lw_g (lw_at lw_m9 125 rfl) rfl
theorem q2292 : (Jvm.Cond.fieldLink "SafeCodeModel" (33 : Nat) "SafeCodeModel" "faultAt" "I") ∈ lw_all := lw_g (lw_at lw_m9 126 rfl) rfl
theorem q2293 : (Jvm.Cond.fieldLink "SafeCodeModel" (37 : Nat) "SafeCodeModel" "classToken" "[I") ∈ lw_all := lw_g (lw_at lw_m9 127 rfl) rfl
theorem q2294 : (Jvm.Cond.fieldLink "SafeCodeModel" (40 : Nat) "SafeCodeModel" "fieldToken" "[I") ∈ lw_all := lw_g (lw_at lw_m9 128 rfl) rfl
theorem q2295 : (Jvm.Cond.fieldLink "SafeCodeModel" (43 : Nat) "SafeCodeModel" "bodyToken" "[I") ∈ lw_all := lw_g (lw_at lw_m9 129 rfl) rfl
theorem q2296 : (Jvm.Cond.fieldLink "SafeCodeModel" (46 : Nat) "SafeCodeModel" "resultToken" "[I") ∈ lw_all := lw_g (lw_at lw_m9 130 rfl) rfl
theorem q2297 : (Jvm.Cond.fieldLink "SafeCodeModel" (49 : Nat) "SafeCodeModel" "labelToken" "[I") ∈ lw_all := lw_g (lw_at lw_m9 131 rfl) rfl
theorem q2298 : (Jvm.Cond.fieldLink "SafeCodeModel" (52 : Nat) "SafeCodeModel" "labelCode" "[I") ∈ lw_all := lw_g (lw_at lw_m9 132 rfl) rfl
theorem q2299 : (Jvm.Cond.fieldLink "SafeCodeModel" (372 : Nat) "SafeCodeModel" "labels" "I") ∈ lw_all := lw_g (lw_at lw_m9 133 rfl) rfl
theorem q2300 : (Jvm.Cond.fieldLink "SafeCodeModel" (55 : Nat) "SafeCodeModel" "codeToken" "[I") ∈ lw_all := lw_g (lw_at lw_m9 134 rfl) rfl
theorem q2301 : (Jvm.Cond.fieldLink "SafeCodeModel" (58 : Nat) "SafeCodeModel" "masks" "[I") ∈ lw_all := lw_g (lw_at lw_m9 135 rfl) rfl
theorem q2302 : (Jvm.Cond.fieldLink "SafeCodeModel" (61 : Nat) "SafeCodeModel" "come" "[Z") ∈ lw_all := lw_g (lw_at lw_m9 136 rfl) rfl
theorem q2303 : (Jvm.Cond.fieldLink "SafeCodeModel" (65 : Nat) "SafeCodeModel" "types" "[I") ∈ lw_all := lw_g (lw_at lw_m9 137 rfl) rfl
theorem q2304 : (Jvm.Cond.fieldLink "SafeCodeModel" (68 : Nat) "SafeCodeModel" "type" "[I") ∈ lw_all := lw_g (lw_at lw_m9 138 rfl) rfl
theorem q2305 : (Jvm.Cond.fieldLink "SafeCodeModel" (495 : Nat) "SafeCodeModel" "top" "I") ∈ lw_all := lw_g (lw_at lw_m9 139 rfl) rfl
theorem q2306 : (Jvm.Cond.fieldLink "SafeCodeModel" (71 : Nat) "SafeCodeModel" "kind" "[B") ∈ lw_all := lw_g (lw_at lw_m9 140 rfl) rfl
theorem q2307 : (Jvm.Cond.fieldLink "SafeCodeModel" (74 : Nat) "SafeCodeModel" "low" "[I") ∈ lw_all := lw_g (lw_at lw_m9 141 rfl) rfl
theorem q2308 : (Jvm.Cond.fieldLink "SafeCodeModel" (77 : Nat) "SafeCodeModel" "high" "[I") ∈ lw_all := lw_g (lw_at lw_m9 142 rfl) rfl
theorem q2309 : (Jvm.Cond.fieldLink "SafeCodeModel" (80 : Nat) "SafeCodeModel" "sites" "[J") ∈ lw_all := lw_g (lw_at lw_m9 143 rfl) rfl
theorem q2310 : (Jvm.Cond.fieldLink "SafeCodeModel" (84 : Nat) "SafeCodeModel" "copy" "[I") ∈ lw_all := lw_g (lw_at lw_m9 144 rfl) rfl
theorem q2311 : (Jvm.Cond.fieldLink "SafeCodeModel" (87 : Nat) "SafeCodeModel" "less" "[I") ∈ lw_all := lw_g (lw_at lw_m9 145 rfl) rfl
theorem q2312 : (Jvm.Cond.fieldLink "SafeCodeModel" (90 : Nat) "SafeCodeModel" "under" "[I") ∈ lw_all := lw_g (lw_at lw_m9 146 rfl) rfl
theorem q2313 : (Jvm.Cond.fieldLink "SafeCodeModel" (93 : Nat) "SafeCodeModel" "length" "[I") ∈ lw_all := lw_g (lw_at lw_m9 147 rfl) rfl
theorem q2314 : (Jvm.Cond.fieldLink "SafeCodeModel" (96 : Nat) "SafeCodeModel" "sized" "[I") ∈ lw_all := lw_g (lw_at lw_m9 148 rfl) rfl
theorem q2315 : (Jvm.Cond.fieldLink "SafeCodeModel" (99 : Nat) "SafeCodeModel" "due" "[Z") ∈ lw_all := lw_g (lw_at lw_m9 149 rfl) rfl
theorem q2316 : (Jvm.Cond.fieldLink "SafeCodeModel" (545 : Nat) "SafeCodeModel" "changed" "Z") ∈ lw_all := lw_g (lw_at lw_m9 150 rfl) rfl
theorem q2317 : (Jvm.Cond.fieldLink "SafeCodeModel" (585 : Nat) "SafeCodeModel" "valuesChanged" "Z") ∈ lw_all := lw_g (lw_at lw_m9 151 rfl) rfl
theorem q2318 : (Jvm.Cond.fieldLink "SafeCodeModel" (632 : Nat) "SafeCodeModel" "went" "Z") ∈ lw_all := lw_g (lw_at lw_m9 152 rfl) rfl
theorem q2319 : (Jvm.Cond.fieldLink "SafeCodeModel" (625 : Nat) "SafeCodeModel" "raised" "I") ∈ lw_all := lw_g (lw_at lw_m9 153 rfl) rfl
theorem q2320 : (Jvm.Cond.fieldLink "SafeCodeModel" (628 : Nat) "SafeCodeModel" "thrown" "J") ∈ lw_all := lw_g (lw_at lw_m9 154 rfl) rfl
theorem q2321 : (Jvm.Cond.fieldLink "SafeCodeModel" (102 : Nat) "SafeCodeModel" "locals" "[J") ∈ lw_all := lw_g (lw_at lw_m9 155 rfl) rfl
theorem q2322 : (Jvm.Cond.fieldLink "SafeCodeModel" (105 : Nat) "SafeCodeModel" "stack" "[J") ∈ lw_all := lw_g (lw_at lw_m9 156 rfl) rfl
theorem q2323 : (Jvm.Cond.fieldLink "SafeCodeModel" (108 : Nat) "SafeCodeModel" "heights" "[I") ∈ lw_all := lw_g (lw_at lw_m9 157 rfl) rfl
theorem q2324 : (Jvm.Cond.fieldLink "SafeCodeModel" (111 : Nat) "SafeCodeModel" "places" "[I") ∈ lw_all := lw_g (lw_at lw_m9 158 rfl) rfl
theorem q2325 : (Jvm.Cond.fieldLink "SafeCodeModel" (114 : Nat) "SafeCodeModel" "objectType" "[I") ∈ lw_all := lw_g (lw_at lw_m9 159 rfl) rfl
theorem q2326 : (Jvm.Cond.fieldLink "SafeCodeModel" (117 : Nat) "SafeCodeModel" "objectSite" "[I") ∈ lw_all := lw_g (lw_at lw_m9 160 rfl) rfl
theorem q2327 : (Jvm.Cond.fieldLink "SafeCodeModel" (120 : Nat) "SafeCodeModel" "objectAt" "[I") ∈ lw_all := lw_g (lw_at lw_m9 161 rfl) rfl
theorem q2328 : (Jvm.Cond.fieldLink "SafeCodeModel" (123 : Nat) "SafeCodeModel" "objectSize" "[I") ∈ lw_all := lw_g (lw_at lw_m9 162 rfl) rfl
theorem q2329 : (Jvm.Cond.fieldLink "SafeCodeModel" (126 : Nat) "SafeCodeModel" "cells" "[J") ∈ lw_all := lw_g (lw_at lw_m9 163 rfl) rfl
theorem q2330 : (Jvm.Cond.fieldLink "SafeCodeModel" (129 : Nat) "SafeCodeModel" "in" "[I") ∈ lw_all := lw_g (lw_at lw_m9 164 rfl) rfl
theorem q2331 : (Jvm.Cond.fieldLink "SafeCodeModel" (132 : Nat) "SafeCodeModel" "out" "[I") ∈ lw_all := lw_g (lw_at lw_m9 165 rfl) rfl
theorem q2332 : (Jvm.Cond.fieldLink "SafeCodeModel" (823 : Nat) "SafeCodeModel" "depth" "I") ∈ lw_all := lw_g (lw_at lw_m9 166 rfl) rfl
theorem q2333 : (Jvm.Cond.fieldLink "SafeCodeModel" (808 : Nat) "SafeCodeModel" "objects" "I") ∈ lw_all := lw_g (lw_at lw_m9 167 rfl) rfl
theorem q2334 : (Jvm.Cond.fieldLink "SafeCodeModel" (811 : Nat) "SafeCodeModel" "used" "I") ∈ lw_all := lw_g (lw_at lw_m9 168 rfl) rfl
theorem q2335 : (Jvm.Cond.fieldLink "SafeCodeModel" (805 : Nat) "SafeCodeModel" "inputs" "I") ∈ lw_all := lw_g (lw_at lw_m9 169 rfl) rfl
theorem q2336 : (Jvm.Cond.fieldLink "SafeCodeModel" (814 : Nat) "SafeCodeModel" "read" "I") ∈ lw_all := lw_g (lw_at lw_m9 170 rfl) rfl
theorem q2337 : (Jvm.Cond.fieldLink "SafeCodeModel" (817 : Nat) "SafeCodeModel" "written" "I") ∈ lw_all := lw_g (lw_at lw_m9 171 rfl) rfl
theorem q2338 : (Jvm.Cond.fieldLink "SafeCodeModel" (820 : Nat) "SafeCodeModel" "steps" "I") ∈ lw_all := lw_g (lw_at lw_m9 172 rfl) rfl
theorem q2339 : (Jvm.Cond.fieldLink "SafeCodeModel" (135 : Nat) "SafeCodeModel" "place" "I") ∈ lw_all := lw_g (lw_at lw_m9 173 rfl) rfl
theorem q2340 : (Jvm.Cond.fieldLink "SafeCodeModel" (138 : Nat) "SafeCodeModel" "thrownSite" "I") ∈ lw_all := lw_g (lw_at lw_m9 174 rfl) rfl
theorem q2341 : (Jvm.Cond.fieldLink "SafeCodeModel" (826 : Nat) "SafeCodeModel" "outcome" "I") ∈ lw_all := lw_g (lw_at lw_m9 175 rfl) rfl
theorem q2342 : (Jvm.Cond.fieldLink "SafeCodeModel" (841 : Nat) "SafeCodeModel" "strays" "I") ∈ lw_all := lw_g (lw_at lw_m9 176 rfl) rfl
theorem q2343 : (Jvm.Cond.fieldLink "SafeCodeModel" (835 : Nat) "SafeCodeModel" "stray" "Z") ∈ lw_all := lw_g (lw_at lw_m9 177 rfl) rfl
theorem q2344 : (Jvm.Cond.lays "SafeCodeModel" "SafeCodeModel" "program" "LSafeCodeModel$Program;") ∈ lw_all := lw_g (lw_at lw_m9 178 rfl) rfl
theorem q2345 : (Jvm.Cond.soleField "SafeCodeModel" "program") ∈ lw_all := lw_g (lw_at lw_m9 179 rfl) rfl
theorem q2346 : (Jvm.Cond.lays "SafeCodeModel" "SafeCodeModel" "spare" "LSafeCodeModel$Program;") ∈ lw_all := lw_g (lw_at lw_m9 180 rfl) rfl
theorem q2347 : (Jvm.Cond.soleField "SafeCodeModel" "spare") ∈ lw_all := lw_g (lw_at lw_m9 181 rfl) rfl
theorem q2348 : (Jvm.Cond.lays "SafeCodeModel" "SafeCodeModel" "loaded" "Z") ∈ lw_all := lw_g (lw_at lw_m9 182 rfl) rfl
theorem q2349 : (Jvm.Cond.soleField "SafeCodeModel" "loaded") ∈ lw_all := lw_g (lw_at lw_m9 183 rfl) rfl
theorem q2350 : (Jvm.Cond.laysFinal "SafeCodeModel" "SafeCodeModel" "bytes" "[B") ∈ lw_all := lw_g (lw_at lw_m9 184 rfl) rfl
theorem q2351 : (Jvm.Cond.soleField "SafeCodeModel" "bytes") ∈ lw_all := lw_g (lw_at lw_m9 185 rfl) rfl
theorem q2352 : (Jvm.Cond.lays "SafeCodeModel" "SafeCodeModel" "fed" "I") ∈ lw_all := lw_g (lw_at lw_m9 186 rfl) rfl
theorem q2353 : (Jvm.Cond.soleField "SafeCodeModel" "fed") ∈ lw_all := lw_g (lw_at lw_m9 187 rfl) rfl
theorem q2354 : (Jvm.Cond.lays "SafeCodeModel" "SafeCodeModel" "allFed" "I") ∈ lw_all := lw_g (lw_at lw_m9 188 rfl) rfl
theorem q2355 : (Jvm.Cond.soleField "SafeCodeModel" "allFed") ∈ lw_all := lw_g (lw_at lw_m9 189 rfl) rfl
theorem q2356 : (Jvm.Cond.laysFinal "SafeCodeModel" "SafeCodeModel" "text" "[B") ∈ lw_all := lw_g (lw_at lw_m9 190 rfl) rfl
theorem q2357 : (Jvm.Cond.soleField "SafeCodeModel" "text") ∈ lw_all := lw_g (lw_at lw_m9 191 rfl) rfl
theorem q2358 : (Jvm.Cond.lays "SafeCodeModel" "SafeCodeModel" "textLength" "I") ∈ lw_all := lw_g (lw_at lw_m9 192 rfl) rfl
theorem q2359 : (Jvm.Cond.soleField "SafeCodeModel" "textLength") ∈ lw_all := lw_g (lw_at lw_m9 193 rfl) rfl
theorem q2360 : (Jvm.Cond.laysFinal "SafeCodeModel" "SafeCodeModel" "tokenFrom" "[I") ∈ lw_all := lw_g (lw_at lw_m9 194 rfl) rfl
theorem q2361 : (Jvm.Cond.soleField "SafeCodeModel" "tokenFrom") ∈ lw_all := lw_g (lw_at lw_m9 195 rfl) rfl
theorem q2362 : (Jvm.Cond.laysFinal "SafeCodeModel" "SafeCodeModel" "tokenTo" "[I") ∈ lw_all := lw_g (lw_at lw_m9 196 rfl) rfl
theorem q2363 : (Jvm.Cond.soleField "SafeCodeModel" "tokenTo") ∈ lw_all := lw_g (lw_at lw_m9 197 rfl) rfl
theorem q2364 : (Jvm.Cond.lays "SafeCodeModel" "SafeCodeModel" "tokens" "I") ∈ lw_all := lw_g (lw_at lw_m9 198 rfl) rfl
theorem q2365 : (Jvm.Cond.soleField "SafeCodeModel" "tokens") ∈ lw_all := lw_g (lw_at lw_m9 199 rfl) rfl
theorem q2366 : (Jvm.Cond.lays "SafeCodeModel" "SafeCodeModel" "at" "I") ∈ lw_all := lw_g (lw_at lw_m9 200 rfl) rfl
theorem q2367 : (Jvm.Cond.soleField "SafeCodeModel" "at") ∈ lw_all := lw_g (lw_at lw_m9 201 rfl) rfl
theorem q2368 : (Jvm.Cond.lays "SafeCodeModel" "SafeCodeModel" "faultAt" "I") ∈ lw_all := lw_g (lw_at lw_m9 202 rfl) rfl
theorem q2369 : (Jvm.Cond.soleField "SafeCodeModel" "faultAt") ∈ lw_all := lw_g (lw_at lw_m9 203 rfl) rfl
theorem q2370 : (Jvm.Cond.laysFinal "SafeCodeModel" "SafeCodeModel" "classToken" "[I") ∈ lw_all := lw_g (lw_at lw_m9 204 rfl) rfl
theorem q2371 : (Jvm.Cond.soleField "SafeCodeModel" "classToken") ∈ lw_all := lw_g (lw_at lw_m9 205 rfl) rfl
theorem q2372 : (Jvm.Cond.laysFinal "SafeCodeModel" "SafeCodeModel" "fieldToken" "[I") ∈ lw_all := lw_g (lw_at lw_m9 206 rfl) rfl
theorem q2373 : (Jvm.Cond.soleField "SafeCodeModel" "fieldToken") ∈ lw_all := lw_g (lw_at lw_m9 207 rfl) rfl
theorem q2374 : (Jvm.Cond.laysFinal "SafeCodeModel" "SafeCodeModel" "bodyToken" "[I") ∈ lw_all := lw_g (lw_at lw_m9 208 rfl) rfl
theorem q2375 : (Jvm.Cond.soleField "SafeCodeModel" "bodyToken") ∈ lw_all := lw_g (lw_at lw_m9 209 rfl) rfl
theorem q2376 : (Jvm.Cond.laysFinal "SafeCodeModel" "SafeCodeModel" "resultToken" "[I") ∈ lw_all := lw_g (lw_at lw_m9 210 rfl) rfl
theorem q2377 : (Jvm.Cond.soleField "SafeCodeModel" "resultToken") ∈ lw_all := lw_g (lw_at lw_m9 211 rfl) rfl
theorem q2378 : (Jvm.Cond.laysFinal "SafeCodeModel" "SafeCodeModel" "labelToken" "[I") ∈ lw_all := lw_g (lw_at lw_m9 212 rfl) rfl
theorem q2379 : (Jvm.Cond.soleField "SafeCodeModel" "labelToken") ∈ lw_all := lw_g (lw_at lw_m9 213 rfl) rfl
theorem q2380 : (Jvm.Cond.laysFinal "SafeCodeModel" "SafeCodeModel" "labelCode" "[I") ∈ lw_all := lw_g (lw_at lw_m9 214 rfl) rfl
theorem q2381 : (Jvm.Cond.soleField "SafeCodeModel" "labelCode") ∈ lw_all := lw_g (lw_at lw_m9 215 rfl) rfl
theorem q2382 : (Jvm.Cond.lays "SafeCodeModel" "SafeCodeModel" "labels" "I") ∈ lw_all := lw_g (lw_at lw_m9 216 rfl) rfl
theorem q2383 : (Jvm.Cond.soleField "SafeCodeModel" "labels") ∈ lw_all := lw_g (lw_at lw_m9 217 rfl) rfl
theorem q2384 : (Jvm.Cond.laysFinal "SafeCodeModel" "SafeCodeModel" "codeToken" "[I") ∈ lw_all := lw_g (lw_at lw_m9 218 rfl) rfl
theorem q2385 : (Jvm.Cond.soleField "SafeCodeModel" "codeToken") ∈ lw_all := lw_g (lw_at lw_m9 219 rfl) rfl
theorem q2386 : (Jvm.Cond.laysFinal "SafeCodeModel" "SafeCodeModel" "masks" "[I") ∈ lw_all := lw_g (lw_at lw_m9 220 rfl) rfl
theorem q2387 : (Jvm.Cond.soleField "SafeCodeModel" "masks") ∈ lw_all := lw_g (lw_at lw_m9 221 rfl) rfl
theorem q2388 : (Jvm.Cond.laysFinal "SafeCodeModel" "SafeCodeModel" "come" "[Z") ∈ lw_all := lw_g (lw_at lw_m9 222 rfl) rfl
theorem q2389 : (Jvm.Cond.soleField "SafeCodeModel" "come") ∈ lw_all := lw_g (lw_at lw_m9 223 rfl) rfl
theorem q2390 : (Jvm.Cond.laysFinal "SafeCodeModel" "SafeCodeModel" "types" "[I") ∈ lw_all := lw_g (lw_at lw_m9 224 rfl) rfl
theorem q2391 : (Jvm.Cond.soleField "SafeCodeModel" "types") ∈ lw_all := lw_g (lw_at lw_m9 225 rfl) rfl
theorem q2392 : (Jvm.Cond.laysFinal "SafeCodeModel" "SafeCodeModel" "type" "[I") ∈ lw_all := lw_g (lw_at lw_m9 226 rfl) rfl
theorem q2393 : (Jvm.Cond.soleField "SafeCodeModel" "type") ∈ lw_all := lw_g (lw_at lw_m9 227 rfl) rfl
theorem q2394 : (Jvm.Cond.lays "SafeCodeModel" "SafeCodeModel" "top" "I") ∈ lw_all := lw_g (lw_at lw_m9 228 rfl) rfl
theorem q2395 : (Jvm.Cond.soleField "SafeCodeModel" "top") ∈ lw_all := lw_g (lw_at lw_m9 229 rfl) rfl
theorem q2396 : (Jvm.Cond.laysFinal "SafeCodeModel" "SafeCodeModel" "kind" "[B") ∈ lw_all := lw_g (lw_at lw_m9 230 rfl) rfl
theorem q2397 : (Jvm.Cond.soleField "SafeCodeModel" "kind") ∈ lw_all := lw_g (lw_at lw_m9 231 rfl) rfl
theorem q2398 : (Jvm.Cond.laysFinal "SafeCodeModel" "SafeCodeModel" "low" "[I") ∈ lw_all := lw_g (lw_at lw_m9 232 rfl) rfl
theorem q2399 : (Jvm.Cond.soleField "SafeCodeModel" "low") ∈ lw_all := lw_g (lw_at lw_m9 233 rfl) rfl
theorem q2400 : (Jvm.Cond.laysFinal "SafeCodeModel" "SafeCodeModel" "high" "[I") ∈ lw_all := lw_g (lw_at lw_m9 234 rfl) rfl
theorem q2401 : (Jvm.Cond.soleField "SafeCodeModel" "high") ∈ lw_all := lw_g (lw_at lw_m9 235 rfl) rfl
theorem q2402 : (Jvm.Cond.laysFinal "SafeCodeModel" "SafeCodeModel" "sites" "[J") ∈ lw_all := lw_g (lw_at lw_m9 236 rfl) rfl
theorem q2403 : (Jvm.Cond.soleField "SafeCodeModel" "sites") ∈ lw_all := lw_g (lw_at lw_m9 237 rfl) rfl
theorem q2404 : (Jvm.Cond.laysFinal "SafeCodeModel" "SafeCodeModel" "copy" "[I") ∈ lw_all := lw_g (lw_at lw_m9 238 rfl) rfl
theorem q2405 : (Jvm.Cond.soleField "SafeCodeModel" "copy") ∈ lw_all := lw_g (lw_at lw_m9 239 rfl) rfl
theorem q2406 : (Jvm.Cond.laysFinal "SafeCodeModel" "SafeCodeModel" "less" "[I") ∈ lw_all := lw_g (lw_at lw_m10 0 rfl) rfl
theorem q2407 : (Jvm.Cond.soleField "SafeCodeModel" "less") ∈ lw_all := lw_g (lw_at lw_m10 1 rfl) rfl
theorem q2408 : (Jvm.Cond.laysFinal "SafeCodeModel" "SafeCodeModel" "under" "[I") ∈ lw_all := lw_g (lw_at lw_m10 2 rfl) rfl
theorem q2409 : (Jvm.Cond.soleField "SafeCodeModel" "under") ∈ lw_all := lw_g (lw_at lw_m10 3 rfl) rfl
theorem q2410 : (Jvm.Cond.laysFinal "SafeCodeModel" "SafeCodeModel" "length" "[I") ∈ lw_all := lw_g (lw_at lw_m10 4 rfl) rfl
theorem q2411 : (Jvm.Cond.soleField "SafeCodeModel" "length") ∈ lw_all := lw_g (lw_at lw_m10 5 rfl) rfl
theorem q2412 : (Jvm.Cond.laysFinal "SafeCodeModel" "SafeCodeModel" "sized" "[I") ∈ lw_all := lw_g (lw_at lw_m10 6 rfl) rfl
theorem q2413 : (Jvm.Cond.soleField "SafeCodeModel" "sized") ∈ lw_all := lw_g (lw_at lw_m10 7 rfl) rfl
theorem q2414 : (Jvm.Cond.laysFinal "SafeCodeModel" "SafeCodeModel" "due" "[Z") ∈ lw_all := lw_g (lw_at lw_m10 8 rfl) rfl
theorem q2415 : (Jvm.Cond.soleField "SafeCodeModel" "due") ∈ lw_all := lw_g (lw_at lw_m10 9 rfl) rfl
theorem q2416 : (Jvm.Cond.lays "SafeCodeModel" "SafeCodeModel" "changed" "Z") ∈ lw_all := lw_g (lw_at lw_m10 10 rfl) rfl
theorem q2417 : (Jvm.Cond.soleField "SafeCodeModel" "changed") ∈ lw_all := lw_g (lw_at lw_m10 11 rfl) rfl
theorem q2418 : (Jvm.Cond.lays "SafeCodeModel" "SafeCodeModel" "valuesChanged" "Z") ∈ lw_all := lw_g (lw_at lw_m10 12 rfl) rfl
theorem q2419 : (Jvm.Cond.soleField "SafeCodeModel" "valuesChanged") ∈ lw_all := lw_g (lw_at lw_m10 13 rfl) rfl
theorem q2420 : (Jvm.Cond.lays "SafeCodeModel" "SafeCodeModel" "went" "Z") ∈ lw_all := lw_g (lw_at lw_m10 14 rfl) rfl
theorem q2421 : (Jvm.Cond.soleField "SafeCodeModel" "went") ∈ lw_all := lw_g (lw_at lw_m10 15 rfl) rfl
theorem q2422 : (Jvm.Cond.lays "SafeCodeModel" "SafeCodeModel" "raised" "I") ∈ lw_all := lw_g (lw_at lw_m10 16 rfl) rfl
theorem q2423 : (Jvm.Cond.soleField "SafeCodeModel" "raised") ∈ lw_all := lw_g (lw_at lw_m10 17 rfl) rfl
theorem q2424 : (Jvm.Cond.lays "SafeCodeModel" "SafeCodeModel" "thrown" "J") ∈ lw_all := lw_g (lw_at lw_m10 18 rfl) rfl
theorem q2425 : (Jvm.Cond.soleField "SafeCodeModel" "thrown") ∈ lw_all := lw_g (lw_at lw_m10 19 rfl) rfl
theorem q2426 : (Jvm.Cond.laysFinal "SafeCodeModel" "SafeCodeModel" "locals" "[J") ∈ lw_all := lw_g (lw_at lw_m10 20 rfl) rfl
theorem q2427 : (Jvm.Cond.soleField "SafeCodeModel" "locals") ∈ lw_all := lw_g (lw_at lw_m10 21 rfl) rfl
theorem q2428 : (Jvm.Cond.laysFinal "SafeCodeModel" "SafeCodeModel" "stack" "[J") ∈ lw_all := lw_g (lw_at lw_m10 22 rfl) rfl
theorem q2429 : (Jvm.Cond.soleField "SafeCodeModel" "stack") ∈ lw_all := lw_g (lw_at lw_m10 23 rfl) rfl
theorem q2430 : (Jvm.Cond.laysFinal "SafeCodeModel" "SafeCodeModel" "heights" "[I") ∈ lw_all := lw_g (lw_at lw_m10 24 rfl) rfl
theorem q2431 : (Jvm.Cond.soleField "SafeCodeModel" "heights") ∈ lw_all := lw_g (lw_at lw_m10 25 rfl) rfl
theorem q2432 : (Jvm.Cond.laysFinal "SafeCodeModel" "SafeCodeModel" "places" "[I") ∈ lw_all := lw_g (lw_at lw_m10 26 rfl) rfl
theorem q2433 : (Jvm.Cond.soleField "SafeCodeModel" "places") ∈ lw_all := lw_g (lw_at lw_m10 27 rfl) rfl
theorem q2434 : (Jvm.Cond.laysFinal "SafeCodeModel" "SafeCodeModel" "objectType" "[I") ∈ lw_all := lw_g (lw_at lw_m10 28 rfl) rfl
theorem q2435 : (Jvm.Cond.soleField "SafeCodeModel" "objectType") ∈ lw_all := lw_g (lw_at lw_m10 29 rfl) rfl
theorem q2436 : (Jvm.Cond.laysFinal "SafeCodeModel" "SafeCodeModel" "objectSite" "[I") ∈ lw_all := lw_g (lw_at lw_m10 30 rfl) rfl
theorem q2437 : (Jvm.Cond.soleField "SafeCodeModel" "objectSite") ∈ lw_all := lw_g (lw_at lw_m10 31 rfl) rfl
theorem q2438 : (Jvm.Cond.laysFinal "SafeCodeModel" "SafeCodeModel" "objectAt" "[I") ∈ lw_all := lw_g (lw_at lw_m10 32 rfl) rfl
theorem q2439 : (Jvm.Cond.soleField "SafeCodeModel" "objectAt") ∈ lw_all := lw_g (lw_at lw_m10 33 rfl) rfl
theorem q2440 : (Jvm.Cond.laysFinal "SafeCodeModel" "SafeCodeModel" "objectSize" "[I") ∈ lw_all := lw_g (lw_at lw_m10 34 rfl) rfl
theorem q2441 : (Jvm.Cond.soleField "SafeCodeModel" "objectSize") ∈ lw_all := lw_g (lw_at lw_m10 35 rfl) rfl
theorem q2442 : (Jvm.Cond.laysFinal "SafeCodeModel" "SafeCodeModel" "cells" "[J") ∈ lw_all := lw_g (lw_at lw_m10 36 rfl) rfl
theorem q2443 : (Jvm.Cond.soleField "SafeCodeModel" "cells") ∈ lw_all := lw_g (lw_at lw_m10 37 rfl) rfl
theorem q2444 : (Jvm.Cond.laysFinal "SafeCodeModel" "SafeCodeModel" "in" "[I") ∈ lw_all := lw_g (lw_at lw_m10 38 rfl) rfl
theorem q2445 : (Jvm.Cond.soleField "SafeCodeModel" "in") ∈ lw_all := lw_g (lw_at lw_m10 39 rfl) rfl
theorem q2446 : (Jvm.Cond.laysFinal "SafeCodeModel" "SafeCodeModel" "out" "[I") ∈ lw_all := lw_g (lw_at lw_m10 40 rfl) rfl
theorem q2447 : (Jvm.Cond.soleField "SafeCodeModel" "out") ∈ lw_all := lw_g (lw_at lw_m10 41 rfl) rfl
theorem q2448 : (Jvm.Cond.lays "SafeCodeModel" "SafeCodeModel" "depth" "I") ∈ lw_all := lw_g (lw_at lw_m10 42 rfl) rfl
theorem q2449 : (Jvm.Cond.soleField "SafeCodeModel" "depth") ∈ lw_all := lw_g (lw_at lw_m10 43 rfl) rfl
theorem q2450 : (Jvm.Cond.lays "SafeCodeModel" "SafeCodeModel" "objects" "I") ∈ lw_all := lw_g (lw_at lw_m10 44 rfl) rfl
theorem q2451 : (Jvm.Cond.soleField "SafeCodeModel" "objects") ∈ lw_all := lw_g (lw_at lw_m10 45 rfl) rfl
theorem q2452 : (Jvm.Cond.lays "SafeCodeModel" "SafeCodeModel" "used" "I") ∈ lw_all := lw_g (lw_at lw_m10 46 rfl) rfl
theorem q2453 : (Jvm.Cond.soleField "SafeCodeModel" "used") ∈ lw_all := lw_g (lw_at lw_m10 47 rfl) rfl
theorem q2454 : (Jvm.Cond.lays "SafeCodeModel" "SafeCodeModel" "inputs" "I") ∈ lw_all := lw_g (lw_at lw_m10 48 rfl) rfl
theorem q2455 : (Jvm.Cond.soleField "SafeCodeModel" "inputs") ∈ lw_all := lw_g (lw_at lw_m10 49 rfl) rfl
theorem q2456 : (Jvm.Cond.lays "SafeCodeModel" "SafeCodeModel" "read" "I") ∈ lw_all := lw_g (lw_at lw_m10 50 rfl) rfl
theorem q2457 : (Jvm.Cond.soleField "SafeCodeModel" "read") ∈ lw_all := lw_g (lw_at lw_m10 51 rfl) rfl
theorem q2458 : (Jvm.Cond.lays "SafeCodeModel" "SafeCodeModel" "written" "I") ∈ lw_all := lw_g (lw_at lw_m10 52 rfl) rfl
theorem q2459 : (Jvm.Cond.soleField "SafeCodeModel" "written") ∈ lw_all := lw_g (lw_at lw_m10 53 rfl) rfl
theorem q2460 : (Jvm.Cond.lays "SafeCodeModel" "SafeCodeModel" "steps" "I") ∈ lw_all := lw_g (lw_at lw_m10 54 rfl) rfl
theorem q2461 : (Jvm.Cond.soleField "SafeCodeModel" "steps") ∈ lw_all := lw_g (lw_at lw_m10 55 rfl) rfl
theorem q2462 : (Jvm.Cond.lays "SafeCodeModel" "SafeCodeModel" "place" "I") ∈ lw_all := lw_g (lw_at lw_m10 56 rfl) rfl
theorem q2463 : (Jvm.Cond.soleField "SafeCodeModel" "place") ∈ lw_all := lw_g (lw_at lw_m10 57 rfl) rfl
theorem q2464 : (Jvm.Cond.lays "SafeCodeModel" "SafeCodeModel" "thrownSite" "I") ∈ lw_all := lw_g (lw_at lw_m10 58 rfl) rfl
theorem q2465 : (Jvm.Cond.soleField "SafeCodeModel" "thrownSite") ∈ lw_all := lw_g (lw_at lw_m10 59 rfl) rfl
theorem q2466 : (Jvm.Cond.lays "SafeCodeModel" "SafeCodeModel" "outcome" "I") ∈ lw_all := lw_g (lw_at lw_m10 60 rfl) rfl
theorem q2467 : (Jvm.Cond.soleField "SafeCodeModel" "outcome") ∈ lw_all := lw_g (lw_at lw_m10 61 rfl) rfl
theorem q2468 : (Jvm.Cond.lays "SafeCodeModel" "SafeCodeModel" "strays" "I") ∈ lw_all := lw_g (lw_at lw_m10 62 rfl) rfl
theorem q2469 : (Jvm.Cond.soleField "SafeCodeModel" "strays") ∈ lw_all := lw_g (lw_at lw_m10 63 rfl) rfl
theorem q2470 : (Jvm.Cond.lays "SafeCodeModel" "SafeCodeModel" "stray" "Z") ∈ lw_all := lw_g (lw_at lw_m10 64 rfl) rfl
theorem q2471 : (Jvm.Cond.soleField "SafeCodeModel" "stray") ∈ lw_all := lw_g (lw_at lw_m10 65 rfl) rfl
theorem q2472 : (Jvm.Cond.superclass "SafeCodeModel" "java/lang/Object") ∈ lw_all := lw_g (lw_at lw_m10 66 rfl) rfl
theorem q2474 : (Jvm.Cond.instanceMethod ({ cls := "SafeCodeModel", name := "feed", desc := "(IIIII)I" } : Jvm.MethodName)) ∈ lw_all := lw_g (lw_at lw_m10 68 rfl) rfl
theorem q2475 : (Jvm.Cond.selects "SafeCodeModel" ({ cls := "SafeCodeModel", name := "feed", desc := "(IIIII)I" } : Jvm.MethodName) ({ cls := "SafeCodeModel", name := "feed", desc := "(IIIII)I" } : Jvm.MethodName)) ∈ lw_all := lw_g (lw_at lw_m10 69 rfl) rfl
theorem q2476 : (Jvm.Cond.code ({ cls := "SafeCodeModel", name := "feed", desc := "(IIIII)I" } : Jvm.MethodName) prog_17_method_3_code (6 : Nat) (Option.some Jvm.ClassFile.FieldType.int)) ∈ lw_all := lw_g (lw_at lw_m10 70 rfl) rfl
theorem q2477 : (Jvm.Cond.constant "SafeCodeModel" (147 : Nat) (65536 : Int32)) ∈ lw_all := lw_g (lw_at lw_m10 71 rfl) rfl
theorem q2478 : (Jvm.Cond.methodLink "SafeCodeModel" (148 : Nat) ({ cls := "SafeCodeModel", name := "word", desc := "(I)V" } : Jvm.MethodName)) ∈ lw_all := lw_g (lw_at lw_m10 72 rfl) rfl
theorem q2479 : (Jvm.Cond.privateMethod ({ cls := "SafeCodeModel", name := "word", desc := "(I)V" } : Jvm.MethodName)) ∈ lw_tbl := lw_at lw_m10 73 rfl
theorem q2480 : (Jvm.Cond.instanceMethod ({ cls := "SafeCodeModel", name := "word", desc := "(I)V" } : Jvm.MethodName)) ∈ lw_all := lw_g (lw_at lw_m10 74 rfl) rfl
theorem q2481 : (Jvm.Cond.code ({ cls := "SafeCodeModel", name := "word", desc := "(I)V" } : Jvm.MethodName) prog_17_method_2_code (3 : Nat) (Option.none : Option Jvm.ClassFile.FieldType)) ∈ lw_all := lw_g (lw_at lw_m10 75 rfl) rfl
theorem q2483 : (Jvm.Cond.instanceMethod ({ cls := "SafeCodeModel", name := "end", desc := "(I)Z" } : Jvm.MethodName)) ∈ lw_all := lw_g (lw_at lw_m10 77 rfl) rfl
theorem q2484 : (Jvm.Cond.selects "SafeCodeModel" ({ cls := "SafeCodeModel", name := "end", desc := "(I)Z" } : Jvm.MethodName) ({ cls := "SafeCodeModel", name := "end", desc := "(I)Z" } : Jvm.MethodName)) ∈ lw_all := lw_g (lw_at lw_m10 78 rfl) rfl
theorem q2485 : (Jvm.Cond.code ({ cls := "SafeCodeModel", name := "end", desc := "(I)Z" } : Jvm.MethodName) prog_17_method_4_code (3 : Nat) (Option.some Jvm.ClassFile.FieldType.boolean)) ∈ lw_all := lw_g (lw_at lw_m10 79 rfl) rfl
theorem q2487 : (Jvm.Cond.instanceMethod ({ cls := "SafeCodeModel", name := "load", desc := "()I" } : Jvm.MethodName)) ∈ lw_all := lw_g (lw_at lw_m10 81 rfl) rfl
theorem q2488 : (Jvm.Cond.selects "SafeCodeModel" ({ cls := "SafeCodeModel", name := "load", desc := "()I" } : Jvm.MethodName) ({ cls := "SafeCodeModel", name := "load", desc := "()I" } : Jvm.MethodName)) ∈ lw_all := lw_g (lw_at lw_m10 82 rfl) rfl
theorem q2489 : (Jvm.Cond.code ({ cls := "SafeCodeModel", name := "load", desc := "()I" } : Jvm.MethodName) prog_17_method_122_code (3 : Nat) (Option.some Jvm.ClassFile.FieldType.int)) ∈ lw_all := lw_g (lw_at lw_m10 83 rfl) rfl
theorem q2490 : (Jvm.Cond.methodLink "SafeCodeModel" (787 : Nat) ({ cls := "SafeCodeModel", name := "fault", desc := "(LSafeCodeModel$Program;)I" } : Jvm.MethodName)) ∈ lw_all := lw_g (lw_at lw_m10 84 rfl) rfl
theorem q2491 : (Jvm.Cond.privateMethod ({ cls := "SafeCodeModel", name := "fault", desc := "(LSafeCodeModel$Program;)I" } : Jvm.MethodName)) ∈ lw_tbl := lw_at lw_m10 85 rfl
theorem q2492 : (Jvm.Cond.instanceMethod ({ cls := "SafeCodeModel", name := "fault", desc := "(LSafeCodeModel$Program;)I" } : Jvm.MethodName)) ∈ lw_all := lw_g (lw_at lw_m10 86 rfl) rfl
theorem q2493 : (Jvm.Cond.code ({ cls := "SafeCodeModel", name := "fault", desc := "(LSafeCodeModel$Program;)I" } : Jvm.MethodName) prog_17_method_121_code (3 : Nat) (Option.some Jvm.ClassFile.FieldType.int)) ∈ lw_all := lw_g (lw_at lw_m10 87 rfl) rfl
theorem q2494 : (Jvm.Cond.methodLink "SafeCodeModel" (765 : Nat) ({ cls := "SafeCodeModel", name := "cut", desc := "()Z" } : Jvm.MethodName)) ∈ lw_all := lw_g (lw_at lw_m10 88 rfl) rfl
theorem q2495 : (Jvm.Cond.privateMethod ({ cls := "SafeCodeModel", name := "cut", desc := "()Z" } : Jvm.MethodName)) ∈ lw_tbl := lw_at lw_m10 89 rfl
theorem q2496 : (Jvm.Cond.instanceMethod ({ cls := "SafeCodeModel", name := "cut", desc := "()Z" } : Jvm.MethodName)) ∈ lw_all := lw_g (lw_at lw_m10 90 rfl) rfl
theorem q2497 : (Jvm.Cond.code ({ cls := "SafeCodeModel", name := "cut", desc := "()Z" } : Jvm.MethodName) prog_17_method_5_code (7 : Nat) (Option.some Jvm.ClassFile.FieldType.boolean)) ∈ lw_all := lw_g (lw_at lw_m10 91 rfl) rfl
theorem q2498 : (Jvm.Cond.methodLink "SafeCodeModel" (768 : Nat) ({ cls := "SafeCodeModel", name := "isProgram", desc := "()Z" } : Jvm.MethodName)) ∈ lw_all := lw_g (lw_at lw_m10 92 rfl) rfl
theorem q2499 : (Jvm.Cond.privateMethod ({ cls := "SafeCodeModel", name := "isProgram", desc := "()Z" } : Jvm.MethodName)) ∈ lw_tbl := lw_at lw_m10 93 rfl
theorem q2500 : (Jvm.Cond.instanceMethod ({ cls := "SafeCodeModel", name := "isProgram", desc := "()Z" } : Jvm.MethodName)) ∈ lw_all := lw_g (lw_at lw_m10 94 rfl) rfl
theorem q2501 : (Jvm.Cond.code ({ cls := "SafeCodeModel", name := "isProgram", desc := "()Z" } : Jvm.MethodName) prog_17_method_20_code (1 : Nat) (Option.some Jvm.ClassFile.FieldType.boolean)) ∈ lw_all := lw_g (lw_at lw_m10 95 rfl) rfl
theorem q2502 : (Jvm.Cond.stringRef "SafeCodeModel" (197 : Nat) "class") ∈ lw_tbl := lw_at lw_m10 96 rfl
theorem q2503 : (Jvm.Cond.methodLink "SafeCodeModel" (199 : Nat) ({ cls := "SafeCodeModel", name := "is", desc := "(ILjava/lang/String;)Z" } : Jvm.MethodName)) ∈ lw_all := lw_g (lw_at lw_m10 97 rfl) rfl
theorem q2504 : (Jvm.Cond.privateMethod ({ cls := "SafeCodeModel", name := "is", desc := "(ILjava/lang/String;)Z" } : Jvm.MethodName)) ∈ lw_tbl := lw_at lw_m10 98 rfl
theorem q2505 : (Jvm.Cond.instanceMethod ({ cls := "SafeCodeModel", name := "is", desc := "(ILjava/lang/String;)Z" } : Jvm.MethodName)) ∈ lw_all := lw_g (lw_at lw_m10 99 rfl) rfl
theorem q2506 : (Jvm.Cond.code ({ cls := "SafeCodeModel", name := "is", desc := "(ILjava/lang/String;)Z" } : Jvm.MethodName) prog_17_method_6_code (4 : Nat) (Option.some Jvm.ClassFile.FieldType.boolean)) ∈ lw_all := lw_g (lw_at lw_m10 100 rfl) rfl
theorem q2507 : (Jvm.Cond.methodLink "SafeCodeModel" (158 : Nat) ({ cls := "java/lang/String", name := "length", desc := "()I" } : Jvm.MethodName)) ∈ lw_all := lw_g (lw_at lw_m10 101 rfl) rfl
theorem q2508 : (Jvm.Cond.methodLink "SafeCodeModel" (163 : Nat) ({ cls := "java/lang/String", name := "charAt", desc := "(I)C" } : Jvm.MethodName)) ∈ lw_all := lw_g (lw_at lw_m10 102 rfl) rfl
theorem q2509 : (Jvm.Cond.methodLink "SafeCodeModel" (203 : Nat) ({ cls := "SafeCodeModel", name := "takes", desc := "(Z)Z" } : Jvm.MethodName)) ∈ lw_all := lw_g (lw_at lw_m10 103 rfl) rfl
theorem q2510 : (Jvm.Cond.privateMethod ({ cls := "SafeCodeModel", name := "takes", desc := "(Z)Z" } : Jvm.MethodName)) ∈ lw_tbl := lw_at lw_m10 104 rfl
theorem q2511 : (Jvm.Cond.instanceMethod ({ cls := "SafeCodeModel", name := "takes", desc := "(Z)Z" } : Jvm.MethodName)) ∈ lw_all := lw_g (lw_at lw_m10 105 rfl) rfl
theorem q2512 : (Jvm.Cond.code ({ cls := "SafeCodeModel", name := "takes", desc := "(Z)Z" } : Jvm.MethodName) prog_17_method_19_code (2 : Nat) (Option.some Jvm.ClassFile.FieldType.boolean)) ∈ lw_all := lw_g (lw_at lw_m10 106 rfl) rfl
theorem q2513 : (Jvm.Cond.methodLink "SafeCodeModel" (207 : Nat) ({ cls := "SafeCodeModel", name := "isClassName", desc := "(I)Z" } : Jvm.MethodName)) ∈ lw_all := lw_g (lw_at lw_m10 107 rfl) rfl
theorem q2514 : (Jvm.Cond.privateMethod ({ cls := "SafeCodeModel", name := "isClassName", desc := "(I)Z" } : Jvm.MethodName)) ∈ lw_tbl := lw_at lw_m10 108 rfl
theorem q2515 : (Jvm.Cond.instanceMethod ({ cls := "SafeCodeModel", name := "isClassName", desc := "(I)Z" } : Jvm.MethodName)) ∈ lw_all := lw_g (lw_at lw_m10 109 rfl) rfl
theorem q2516 : (Jvm.Cond.code ({ cls := "SafeCodeModel", name := "isClassName", desc := "(I)Z" } : Jvm.MethodName) prog_17_method_12_code (2 : Nat) (Option.some Jvm.ClassFile.FieldType.boolean)) ∈ lw_all := lw_g (lw_at lw_m10 110 rfl) rfl
theorem q2517 : (Jvm.Cond.methodLink "SafeCodeModel" (171 : Nat) ({ cls := "SafeCodeModel", name := "isName", desc := "(IIII)Z" } : Jvm.MethodName)) ∈ lw_all := lw_g (lw_at lw_m10 111 rfl) rfl
theorem q2518 : (Jvm.Cond.privateMethod ({ cls := "SafeCodeModel", name := "isName", desc := "(IIII)Z" } : Jvm.MethodName)) ∈ lw_tbl := lw_at lw_m10 112 rfl
theorem q2519 : (Jvm.Cond.instanceMethod ({ cls := "SafeCodeModel", name := "isName", desc := "(IIII)Z" } : Jvm.MethodName)) ∈ lw_all := lw_g (lw_at lw_m10 113 rfl) rfl
theorem q2520 : (Jvm.Cond.code ({ cls := "SafeCodeModel", name := "isName", desc := "(IIII)Z" } : Jvm.MethodName) prog_17_method_10_code (7 : Nat) (Option.some Jvm.ClassFile.FieldType.boolean)) ∈ lw_all := lw_g (lw_at lw_m10 114 rfl) rfl
theorem q2521 : (Jvm.Cond.stringRef "SafeCodeModel" (210 : Nat) "of") ∈ lw_tbl := lw_at lw_m10 115 rfl
theorem q2522 : (Jvm.Cond.stringRef "SafeCodeModel" (212 : Nat) "{") ∈ lw_tbl := lw_at lw_m10 116 rfl
theorem q2523 : (Jvm.Cond.stringRef "SafeCodeModel" (214 : Nat) "}") ∈ lw_tbl := lw_at lw_m10 117 rfl
theorem q2524 : (Jvm.Cond.methodLink "SafeCodeModel" (216 : Nat) ({ cls := "SafeCodeModel", name := "isMember", desc := "()Z" } : Jvm.MethodName)) ∈ lw_all := lw_g (lw_at lw_m10 118 rfl) rfl
theorem q2525 : (Jvm.Cond.privateMethod ({ cls := "SafeCodeModel", name := "isMember", desc := "()Z" } : Jvm.MethodName)) ∈ lw_tbl := lw_at lw_m10 119 rfl
theorem q2526 : (Jvm.Cond.instanceMethod ({ cls := "SafeCodeModel", name := "isMember", desc := "()Z" } : Jvm.MethodName)) ∈ lw_all := lw_g (lw_at lw_m10 120 rfl) rfl
theorem q2527 : (Jvm.Cond.code ({ cls := "SafeCodeModel", name := "isMember", desc := "()Z" } : Jvm.MethodName) prog_17_method_21_code (1 : Nat) (Option.some Jvm.ClassFile.FieldType.boolean)) ∈ lw_all := lw_g (lw_at lw_m10 121 rfl) rfl
theorem q2528 : (Jvm.Cond.stringRef "SafeCodeModel" (220 : Nat) "field") ∈ lw_tbl := lw_at lw_m10 122 rfl
theorem q2529 : (Jvm.Cond.methodLink "SafeCodeModel" (222 : Nat) ({ cls := "SafeCodeModel", name := "isSmallName", desc := "(I)Z" } : Jvm.MethodName)) ∈ lw_all := lw_g (lw_at lw_m10 123 rfl) rfl
theorem q2530 : (Jvm.Cond.privateMethod ({ cls := "SafeCodeModel", name := "isSmallName", desc := "(I)Z" } : Jvm.MethodName)) ∈ lw_tbl := lw_at lw_m10 124 rfl
theorem q2531 : (Jvm.Cond.instanceMethod ({ cls := "SafeCodeModel", name := "isSmallName", desc := "(I)Z" } : Jvm.MethodName)) ∈ lw_all := lw_g (lw_at lw_m10 125 rfl) rfl
theorem q2532 : (Jvm.Cond.code ({ cls := "SafeCodeModel", name := "isSmallName", desc := "(I)Z" } : Jvm.MethodName) prog_17_method_11_code (2 : Nat) (Option.some Jvm.ClassFile.FieldType.boolean)) ∈ lw_all := lw_g (lw_at lw_m10 126 rfl) rfl
theorem q2533 : (Jvm.Cond.methodLink "SafeCodeModel" (225 : Nat) ({ cls := "SafeCodeModel", name := "isType", desc := "(I)Z" } : Jvm.MethodName)) ∈ lw_all := lw_g (lw_at lw_m10 127 rfl) rfl
theorem q2534 : (Jvm.Cond.privateMethod ({ cls := "SafeCodeModel", name := "isType", desc := "(I)Z" } : Jvm.MethodName)) ∈ lw_tbl := lw_at lw_m10 128 rfl
theorem q2535 : (Jvm.Cond.instanceMethod ({ cls := "SafeCodeModel", name := "isType", desc := "(I)Z" } : Jvm.MethodName)) ∈ lw_all := lw_g (lw_at lw_m10 129 rfl) rfl
theorem q2536 : (Jvm.Cond.code ({ cls := "SafeCodeModel", name := "isType", desc := "(I)Z" } : Jvm.MethodName) prog_17_method_14_code (4 : Nat) (Option.some Jvm.ClassFile.FieldType.boolean)) ∈ lw_all := lw_g (lw_at lw_m10 130 rfl) rfl
theorem q2537 : (Jvm.Cond.methodLink "SafeCodeModel" (174 : Nat) ({ cls := "SafeCodeModel", name := "isArray", desc := "(I)Z" } : Jvm.MethodName)) ∈ lw_all := lw_g (lw_at lw_m10 131 rfl) rfl
theorem q2538 : (Jvm.Cond.privateMethod ({ cls := "SafeCodeModel", name := "isArray", desc := "(I)Z" } : Jvm.MethodName)) ∈ lw_tbl := lw_at lw_m10 132 rfl
theorem q2539 : (Jvm.Cond.instanceMethod ({ cls := "SafeCodeModel", name := "isArray", desc := "(I)Z" } : Jvm.MethodName)) ∈ lw_all := lw_g (lw_at lw_m10 133 rfl) rfl
theorem q2540 : (Jvm.Cond.code ({ cls := "SafeCodeModel", name := "isArray", desc := "(I)Z" } : Jvm.MethodName) prog_17_method_13_code (2 : Nat) (Option.some Jvm.ClassFile.FieldType.boolean)) ∈ lw_all := lw_g (lw_at lw_m10 134 rfl) rfl
theorem q2541 : (Jvm.Cond.stringRef "SafeCodeModel" (228 : Nat) "static") ∈ lw_tbl := lw_at lw_m10 135 rfl
theorem q2542 : (Jvm.Cond.stringRef "SafeCodeModel" (230 : Nat) "method") ∈ lw_tbl := lw_at lw_m10 136 rfl
theorem q2543 : (Jvm.Cond.stringRef "SafeCodeModel" (232 : Nat) "(") ∈ lw_tbl := lw_at lw_m10 137 rfl
theorem q2544 : (Jvm.Cond.stringRef "SafeCodeModel" (234 : Nat) ")") ∈ lw_tbl := lw_at lw_m10 138 rfl
theorem q2545 : (Jvm.Cond.stringRef "SafeCodeModel" (236 : Nat) "none") ∈ lw_tbl := lw_at lw_m10 139 rfl
theorem q2546 : (Jvm.Cond.methodLink "SafeCodeModel" (238 : Nat) ({ cls := "SafeCodeModel", name := "isNumber", desc := "(I)Z" } : Jvm.MethodName)) ∈ lw_all := lw_g (lw_at lw_m10 140 rfl) rfl
theorem q2547 : (Jvm.Cond.privateMethod ({ cls := "SafeCodeModel", name := "isNumber", desc := "(I)Z" } : Jvm.MethodName)) ∈ lw_tbl := lw_at lw_m10 141 rfl
theorem q2548 : (Jvm.Cond.instanceMethod ({ cls := "SafeCodeModel", name := "isNumber", desc := "(I)Z" } : Jvm.MethodName)) ∈ lw_all := lw_g (lw_at lw_m10 142 rfl) rfl
theorem q2549 : (Jvm.Cond.code ({ cls := "SafeCodeModel", name := "isNumber", desc := "(I)Z" } : Jvm.MethodName) prog_17_method_17_code (5 : Nat) (Option.some Jvm.ClassFile.FieldType.boolean)) ∈ lw_all := lw_g (lw_at lw_m10 143 rfl) rfl
theorem q2550 : (Jvm.Cond.methodLink "SafeCodeModel" (182 : Nat) ({ cls := "SafeCodeModel", name := "number", desc := "(I)J" } : Jvm.MethodName)) ∈ lw_all := lw_g (lw_at lw_m10 144 rfl) rfl
theorem q2551 : (Jvm.Cond.privateMethod ({ cls := "SafeCodeModel", name := "number", desc := "(I)J" } : Jvm.MethodName)) ∈ lw_tbl := lw_at lw_m10 145 rfl
theorem q2552 : (Jvm.Cond.instanceMethod ({ cls := "SafeCodeModel", name := "number", desc := "(I)J" } : Jvm.MethodName)) ∈ lw_all := lw_g (lw_at lw_m10 146 rfl) rfl
theorem q2553 : (Jvm.Cond.code ({ cls := "SafeCodeModel", name := "number", desc := "(I)J" } : Jvm.MethodName) prog_17_method_18_code (6 : Nat) (Option.some Jvm.ClassFile.FieldType.long)) ∈ lw_all := lw_g (lw_at lw_m10 147 rfl) rfl
theorem q2554 : (Jvm.Cond.constantLong "SafeCodeModel" (190 : Nat) (10 : Int64)) ∈ lw_all := lw_g (lw_at lw_m10 148 rfl) rfl
theorem q2555 : (Jvm.Cond.constantLong "SafeCodeModel" (192 : Nat) (48 : Int64)) ∈ lw_all := lw_g (lw_at lw_m10 149 rfl) rfl
theorem q2556 : (Jvm.Cond.constantLong "SafeCodeModel" (186 : Nat) (-2147483648 : Int64)) ∈ lw_all := lw_g (lw_at lw_m10 150 rfl) rfl
theorem q2557 : (Jvm.Cond.constantLong "SafeCodeModel" (188 : Nat) (2147483647 : Int64)) ∈ lw_all := lw_g (lw_at lw_m10 151 rfl) rfl
theorem q2558 : (Jvm.Cond.methodLink "SafeCodeModel" (241 : Nat) ({ cls := "SafeCodeModel", name := "isLine", desc := "()Z" } : Jvm.MethodName)) ∈ lw_all := lw_g (lw_at lw_m10 152 rfl) rfl
theorem q2559 : (Jvm.Cond.privateMethod ({ cls := "SafeCodeModel", name := "isLine", desc := "()Z" } : Jvm.MethodName)) ∈ lw_tbl := lw_at lw_m10 153 rfl
theorem q2560 : (Jvm.Cond.instanceMethod ({ cls := "SafeCodeModel", name := "isLine", desc := "()Z" } : Jvm.MethodName)) ∈ lw_all := lw_g (lw_at lw_m10 154 rfl) rfl
theorem q2561 : (Jvm.Cond.code ({ cls := "SafeCodeModel", name := "isLine", desc := "()Z" } : Jvm.MethodName) prog_17_method_24_code (2 : Nat) (Option.some Jvm.ClassFile.FieldType.boolean)) ∈ lw_all := lw_g (lw_at lw_m10 155 rfl) rfl
theorem q2562 : (Jvm.Cond.methodLink "SafeCodeModel" (252 : Nat) ({ cls := "SafeCodeModel", name := "isLabel", desc := "(I)Z" } : Jvm.MethodName)) ∈ lw_all := lw_g (lw_at lw_m10 156 rfl) rfl
theorem q2563 : (Jvm.Cond.privateMethod ({ cls := "SafeCodeModel", name := "isLabel", desc := "(I)Z" } : Jvm.MethodName)) ∈ lw_tbl := lw_at lw_m10 157 rfl
theorem q2564 : (Jvm.Cond.instanceMethod ({ cls := "SafeCodeModel", name := "isLabel", desc := "(I)Z" } : Jvm.MethodName)) ∈ lw_all := lw_g (lw_at lw_m10 158 rfl) rfl
theorem q2565 : (Jvm.Cond.code ({ cls := "SafeCodeModel", name := "isLabel", desc := "(I)Z" } : Jvm.MethodName) prog_17_method_22_code (2 : Nat) (Option.some Jvm.ClassFile.FieldType.boolean)) ∈ lw_all := lw_g (lw_at lw_m10 159 rfl) rfl
theorem q2566 : (Jvm.Cond.stringRef "SafeCodeModel" (244 : Nat) ":") ∈ lw_tbl := lw_at lw_m10 160 rfl
theorem q2567 : (Jvm.Cond.stringRef "SafeCodeModel" (255 : Nat) "catch") ∈ lw_tbl := lw_at lw_m10 161 rfl
theorem q2568 : (Jvm.Cond.methodLink "SafeCodeModel" (257 : Nat) ({ cls := "SafeCodeModel", name := "opOf", desc := "(I)I" } : Jvm.MethodName)) ∈ lw_all := lw_g (lw_at lw_m10 162 rfl) rfl
theorem q2569 : (Jvm.Cond.privateMethod ({ cls := "SafeCodeModel", name := "opOf", desc := "(I)I" } : Jvm.MethodName)) ∈ lw_tbl := lw_at lw_m10 163 rfl
theorem q2570 : (Jvm.Cond.instanceMethod ({ cls := "SafeCodeModel", name := "opOf", desc := "(I)I" } : Jvm.MethodName)) ∈ lw_all := lw_g (lw_at lw_m10 164 rfl) rfl
theorem q2571 : (Jvm.Cond.code ({ cls := "SafeCodeModel", name := "opOf", desc := "(I)I" } : Jvm.MethodName) prog_17_method_23_code (2 : Nat) (Option.some Jvm.ClassFile.FieldType.int)) ∈ lw_all := lw_g (lw_at lw_m10 165 rfl) rfl
theorem q2572 : (Jvm.Cond.stringRef "SafeCodeModel" (246 : Nat) " push null load store inc dup pop swap add sub mul div rem and or xor shl shr neg goto eq ne lt le gt ge isnull notnull same other new array length aload astore get put cast is call send throw give back read write ") ∈ lw_tbl := lw_at lw_m10 166 rfl
theorem q2573 : (Jvm.Cond.methodLink "SafeCodeModel" (248 : Nat) ({ cls := "SafeCodeModel", name := "among", desc := "(IILjava/lang/String;)I" } : Jvm.MethodName)) ∈ lw_all := lw_g (lw_at lw_m10 167 rfl) rfl
theorem q2574 : (Jvm.Cond.privateMethod ({ cls := "SafeCodeModel", name := "among", desc := "(IILjava/lang/String;)I" } : Jvm.MethodName)) ∈ lw_tbl := lw_at lw_m10 168 rfl
theorem q2575 : (Jvm.Cond.instanceMethod ({ cls := "SafeCodeModel", name := "among", desc := "(IILjava/lang/String;)I" } : Jvm.MethodName)) ∈ lw_all := lw_g (lw_at lw_m10 169 rfl) rfl
theorem q2576 : (Jvm.Cond.code ({ cls := "SafeCodeModel", name := "among", desc := "(IILjava/lang/String;)I" } : Jvm.MethodName) prog_17_method_9_code (9 : Nat) (Option.some Jvm.ClassFile.FieldType.int)) ∈ lw_all := lw_g (lw_at lw_m10 170 rfl) rfl
theorem q2577 : (Jvm.Cond.stringRef "SafeCodeModel" (260 : Nat) "N-KKI--------------LLLLLLLLLLLCE---FFTTFF-----") ∈ lw_tbl := lw_at lw_m10 171 rfl
theorem q2578 : (Jvm.Cond.stringRef "SafeCodeModel" (262 : Nat) "int") ∈ lw_tbl := lw_at lw_m10 172 rfl
theorem q2579 : (Jvm.Cond.methodLink "SafeCodeModel" (264 : Nat) ({ cls := "SafeCodeModel", name := "isReference", desc := "(I)Z" } : Jvm.MethodName)) ∈ lw_all := lw_g (lw_at lw_m10 173 rfl) rfl
theorem q2580 : (Jvm.Cond.privateMethod ({ cls := "SafeCodeModel", name := "isReference", desc := "(I)Z" } : Jvm.MethodName)) ∈ lw_tbl := lw_at lw_m10 174 rfl
theorem q2581 : (Jvm.Cond.instanceMethod ({ cls := "SafeCodeModel", name := "isReference", desc := "(I)Z" } : Jvm.MethodName)) ∈ lw_all := lw_g (lw_at lw_m10 175 rfl) rfl
theorem q2582 : (Jvm.Cond.code ({ cls := "SafeCodeModel", name := "isReference", desc := "(I)Z" } : Jvm.MethodName) prog_17_method_16_code (3 : Nat) (Option.some Jvm.ClassFile.FieldType.boolean)) ∈ lw_all := lw_g (lw_at lw_m10 176 rfl) rfl
theorem q2583 : (Jvm.Cond.methodLink "SafeCodeModel" (178 : Nat) ({ cls := "SafeCodeModel", name := "point", desc := "(I)I" } : Jvm.MethodName)) ∈ lw_all := lw_g (lw_at lw_m10 177 rfl) rfl
theorem q2584 : (Jvm.Cond.privateMethod ({ cls := "SafeCodeModel", name := "point", desc := "(I)I" } : Jvm.MethodName)) ∈ lw_tbl := lw_at lw_m10 178 rfl
theorem q2585 : (Jvm.Cond.instanceMethod ({ cls := "SafeCodeModel", name := "point", desc := "(I)I" } : Jvm.MethodName)) ∈ lw_all := lw_g (lw_at lw_m10 179 rfl) rfl
theorem q2586 : (Jvm.Cond.code ({ cls := "SafeCodeModel", name := "point", desc := "(I)I" } : Jvm.MethodName) prog_17_method_15_code (3 : Nat) (Option.some Jvm.ClassFile.FieldType.int)) ∈ lw_all := lw_g (lw_at lw_m10 180 rfl) rfl
theorem q2587 : (Jvm.Cond.methodLink "SafeCodeModel" (771 : Nat) ({ cls := "SafeCodeModel", name := "classNames", desc := "(LSafeCodeModel$Program;)Z" } : Jvm.MethodName)) ∈ lw_all := lw_g (lw_at lw_m10 181 rfl) rfl
theorem q2588 : (Jvm.Cond.privateMethod ({ cls := "SafeCodeModel", name := "classNames", desc := "(LSafeCodeModel$Program;)Z" } : Jvm.MethodName)) ∈ lw_tbl := lw_at lw_m10 182 rfl
theorem q2589 : (Jvm.Cond.instanceMethod ({ cls := "SafeCodeModel", name := "classNames", desc := "(LSafeCodeModel$Program;)Z" } : Jvm.MethodName)) ∈ lw_all := lw_g (lw_at lw_m10 183 rfl) rfl
theorem q2590 : (Jvm.Cond.code ({ cls := "SafeCodeModel", name := "classNames", desc := "(LSafeCodeModel$Program;)Z" } : Jvm.MethodName) prog_17_method_33_code (4 : Nat) (Option.some Jvm.ClassFile.FieldType.boolean)) ∈ lw_all := lw_g (lw_at lw_m10 184 rfl) rfl
theorem q2591 : (Jvm.Cond.methodLink "SafeCodeModel" (286 : Nat) ({ cls := "SafeCodeModel", name := "classOfToken", desc := "(LSafeCodeModel$Program;I)I" } : Jvm.MethodName)) ∈ lw_all := lw_g (lw_at lw_m10 185 rfl) rfl
theorem q2592 : (Jvm.Cond.privateMethod ({ cls := "SafeCodeModel", name := "classOfToken", desc := "(LSafeCodeModel$Program;I)I" } : Jvm.MethodName)) ∈ lw_tbl := lw_at lw_m10 186 rfl
theorem q2593 : (Jvm.Cond.instanceMethod ({ cls := "SafeCodeModel", name := "classOfToken", desc := "(LSafeCodeModel$Program;I)I" } : Jvm.MethodName)) ∈ lw_all := lw_g (lw_at lw_m10 187 rfl) rfl
theorem q2594 : (Jvm.Cond.code ({ cls := "SafeCodeModel", name := "classOfToken", desc := "(LSafeCodeModel$Program;I)I" } : Jvm.MethodName) prog_17_method_27_code (3 : Nat) (Option.some Jvm.ClassFile.FieldType.int)) ∈ lw_all := lw_g (lw_at lw_m10 188 rfl) rfl
theorem q2595 : (Jvm.Cond.methodLink "SafeCodeModel" (276 : Nat) ({ cls := "SafeCodeModel", name := "classOf", desc := "(LSafeCodeModel$Program;II)I" } : Jvm.MethodName)) ∈ lw_all := lw_g (lw_at lw_m10 189 rfl) rfl
theorem q2596 : (Jvm.Cond.privateMethod ({ cls := "SafeCodeModel", name := "classOf", desc := "(LSafeCodeModel$Program;II)I" } : Jvm.MethodName)) ∈ lw_tbl := lw_at lw_m10 190 rfl
theorem q2597 : (Jvm.Cond.instanceMethod ({ cls := "SafeCodeModel", name := "classOf", desc := "(LSafeCodeModel$Program;II)I" } : Jvm.MethodName)) ∈ lw_all := lw_g (lw_at lw_m10 191 rfl) rfl
theorem q2598 : (Jvm.Cond.code ({ cls := "SafeCodeModel", name := "classOf", desc := "(LSafeCodeModel$Program;II)I" } : Jvm.MethodName) prog_17_method_26_code (6 : Nat) (Option.some Jvm.ClassFile.FieldType.int)) ∈ lw_all := lw_g (lw_at lw_m10 192 rfl) rfl
theorem q2599 : (Jvm.Cond.stringRef "SafeCodeModel" (270 : Nat) " Object Error NullError IndexError SizeError DivideError CastError StoreError ") ∈ lw_tbl := lw_at lw_m10 193 rfl
theorem q2600 : (Jvm.Cond.methodLink "SafeCodeModel" (272 : Nat) ({ cls := "SafeCodeModel", name := "classCount", desc := "(LSafeCodeModel$Program;)I" } : Jvm.MethodName)) ∈ lw_all := lw_g (lw_at lw_m10 194 rfl) rfl
theorem q2601 : (Jvm.Cond.privateMethod ({ cls := "SafeCodeModel", name := "classCount", desc := "(LSafeCodeModel$Program;)I" } : Jvm.MethodName)) ∈ lw_tbl := lw_at lw_m10 195 rfl
theorem q2602 : (Jvm.Cond.instanceMethod ({ cls := "SafeCodeModel", name := "classCount", desc := "(LSafeCodeModel$Program;)I" } : Jvm.MethodName)) ∈ lw_all := lw_g (lw_at lw_m10 196 rfl) rfl
theorem q2603 : (Jvm.Cond.code ({ cls := "SafeCodeModel", name := "classCount", desc := "(LSafeCodeModel$Program;)I" } : Jvm.MethodName) prog_17_method_25_code (2 : Nat) (Option.some Jvm.ClassFile.FieldType.int)) ∈ lw_all := lw_g (lw_at lw_m10 197 rfl) rfl
theorem q2604 : (Jvm.Cond.methodLink "SafeCodeModel" (167 : Nat) ({ cls := "SafeCodeModel", name := "isSame", desc := "(IIII)Z" } : Jvm.MethodName)) ∈ lw_all := lw_g (lw_at lw_m10 198 rfl) rfl
theorem q2605 : (Jvm.Cond.privateMethod ({ cls := "SafeCodeModel", name := "isSame", desc := "(IIII)Z" } : Jvm.MethodName)) ∈ lw_tbl := lw_at lw_m10 199 rfl
theorem q2606 : (Jvm.Cond.instanceMethod ({ cls := "SafeCodeModel", name := "isSame", desc := "(IIII)Z" } : Jvm.MethodName)) ∈ lw_all := lw_g (lw_at lw_m10 200 rfl) rfl
theorem q2607 : (Jvm.Cond.code ({ cls := "SafeCodeModel", name := "isSame", desc := "(IIII)Z" } : Jvm.MethodName) prog_17_method_7_code (6 : Nat) (Option.some Jvm.ClassFile.FieldType.boolean)) ∈ lw_all := lw_g (lw_at lw_m10 201 rfl) rfl
theorem q2608 : (Jvm.Cond.methodLink "SafeCodeModel" (290 : Nat) ({ cls := "SafeCodeModel", name := "wrong", desc := "(I)Z" } : Jvm.MethodName)) ∈ lw_all := lw_g (lw_at lw_m10 202 rfl) rfl
theorem q2609 : (Jvm.Cond.privateMethod ({ cls := "SafeCodeModel", name := "wrong", desc := "(I)Z" } : Jvm.MethodName)) ∈ lw_tbl := lw_at lw_m10 203 rfl
theorem q2610 : (Jvm.Cond.instanceMethod ({ cls := "SafeCodeModel", name := "wrong", desc := "(I)Z" } : Jvm.MethodName)) ∈ lw_all := lw_g (lw_at lw_m10 204 rfl) rfl
theorem q2611 : (Jvm.Cond.code ({ cls := "SafeCodeModel", name := "wrong", desc := "(I)Z" } : Jvm.MethodName) prog_17_method_32_code (2 : Nat) (Option.some Jvm.ClassFile.FieldType.boolean)) ∈ lw_all := lw_g (lw_at lw_m10 205 rfl) rfl
theorem q2612 : (Jvm.Cond.methodLink "SafeCodeModel" (283 : Nat) ({ cls := "SafeCodeModel", name := "behind", desc := "(I)I" } : Jvm.MethodName)) ∈ lw_all := lw_g (lw_at lw_m10 206 rfl) rfl
theorem q2613 : (Jvm.Cond.privateMethod ({ cls := "SafeCodeModel", name := "behind", desc := "(I)I" } : Jvm.MethodName)) ∈ lw_tbl := lw_at lw_m10 207 rfl
theorem q2614 : (Jvm.Cond.instanceMethod ({ cls := "SafeCodeModel", name := "behind", desc := "(I)I" } : Jvm.MethodName)) ∈ lw_all := lw_g (lw_at lw_m10 208 rfl) rfl
theorem q2615 : (Jvm.Cond.code ({ cls := "SafeCodeModel", name := "behind", desc := "(I)I" } : Jvm.MethodName) prog_17_method_30_code (4 : Nat) (Option.some Jvm.ClassFile.FieldType.int)) ∈ lw_all := lw_g (lw_at lw_m10 209 rfl) rfl
theorem q2616 : (Jvm.Cond.methodLink "SafeCodeModel" (774 : Nat) ({ cls := "SafeCodeModel", name := "members", desc := "(LSafeCodeModel$Program;)Z" } : Jvm.MethodName)) ∈ lw_all := lw_g (lw_at lw_m10 210 rfl) rfl
theorem q2617 : (Jvm.Cond.privateMethod ({ cls := "SafeCodeModel", name := "members", desc := "(LSafeCodeModel$Program;)Z" } : Jvm.MethodName)) ∈ lw_tbl := lw_at lw_m10 211 rfl
theorem q2618 : (Jvm.Cond.instanceMethod ({ cls := "SafeCodeModel", name := "members", desc := "(LSafeCodeModel$Program;)Z" } : Jvm.MethodName)) ∈ lw_all := lw_g (lw_at lw_m10 212 rfl) rfl
theorem q2619 : (Jvm.Cond.code ({ cls := "SafeCodeModel", name := "members", desc := "(LSafeCodeModel$Program;)Z" } : Jvm.MethodName) prog_17_method_36_code (4 : Nat) (Option.some Jvm.ClassFile.FieldType.boolean)) ∈ lw_all := lw_g (lw_at lw_m10 213 rfl) rfl
theorem q2620 : (Jvm.Cond.methodLink "SafeCodeModel" (309 : Nat) ({ cls := "SafeCodeModel", name := "field", desc := "(LSafeCodeModel$Program;II)Z" } : Jvm.MethodName)) ∈ lw_all := lw_g (lw_at lw_m10 214 rfl) rfl
theorem q2621 : (Jvm.Cond.privateMethod ({ cls := "SafeCodeModel", name := "field", desc := "(LSafeCodeModel$Program;II)Z" } : Jvm.MethodName)) ∈ lw_tbl := lw_at lw_m10 215 rfl
theorem q2622 : (Jvm.Cond.instanceMethod ({ cls := "SafeCodeModel", name := "field", desc := "(LSafeCodeModel$Program;II)Z" } : Jvm.MethodName)) ∈ lw_all := lw_g (lw_at lw_m10 216 rfl) rfl
theorem q2623 : (Jvm.Cond.code ({ cls := "SafeCodeModel", name := "field", desc := "(LSafeCodeModel$Program;II)Z" } : Jvm.MethodName) prog_17_method_37_code (5 : Nat) (Option.some Jvm.ClassFile.FieldType.boolean)) ∈ lw_all := lw_g (lw_at lw_m10 217 rfl) rfl
theorem q2624 : (Jvm.Cond.methodLink "SafeCodeModel" (317 : Nat) ({ cls := "SafeCodeModel", name := "fieldOf", desc := "(LSafeCodeModel$Program;III)I" } : Jvm.MethodName)) ∈ lw_all := lw_g (lw_at lw_m10 218 rfl) rfl
theorem q2625 : (Jvm.Cond.privateMethod ({ cls := "SafeCodeModel", name := "fieldOf", desc := "(LSafeCodeModel$Program;III)I" } : Jvm.MethodName)) ∈ lw_tbl := lw_at lw_m10 219 rfl
theorem q2626 : (Jvm.Cond.instanceMethod ({ cls := "SafeCodeModel", name := "fieldOf", desc := "(LSafeCodeModel$Program;III)I" } : Jvm.MethodName)) ∈ lw_all := lw_g (lw_at lw_m10 220 rfl) rfl
theorem q2627 : (Jvm.Cond.code ({ cls := "SafeCodeModel", name := "fieldOf", desc := "(LSafeCodeModel$Program;III)I" } : Jvm.MethodName) prog_17_method_34_code (6 : Nat) (Option.some Jvm.ClassFile.FieldType.int)) ∈ lw_all := lw_g (lw_at lw_m10 221 rfl) rfl
theorem q2628 : (Jvm.Cond.methodLink "SafeCodeModel" (299 : Nat) ({ cls := "SafeCodeModel", name := "isAtOrBelow", desc := "(LSafeCodeModel$Program;II)Z" } : Jvm.MethodName)) ∈ lw_all := lw_g (lw_at lw_m10 222 rfl) rfl
theorem q2629 : (Jvm.Cond.static ({ cls := "SafeCodeModel", name := "isAtOrBelow", desc := "(LSafeCodeModel$Program;II)Z" } : Jvm.MethodName)) ∈ lw_all := lw_g (lw_at lw_m10 223 rfl) rfl
theorem q2630 : (Jvm.Cond.code ({ cls := "SafeCodeModel", name := "isAtOrBelow", desc := "(LSafeCodeModel$Program;II)Z" } : Jvm.MethodName) prog_17_method_28_code (4 : Nat) (Option.some Jvm.ClassFile.FieldType.boolean)) ∈ lw_all := lw_g (lw_at lw_m10 224 rfl) rfl
theorem q2631 : (Jvm.Cond.methodLink "SafeCodeModel" (321 : Nat) ({ cls := "SafeCodeModel", name := "typeOf", desc := "(LSafeCodeModel$Program;I)I" } : Jvm.MethodName)) ∈ lw_all := lw_g (lw_at lw_m10 225 rfl) rfl
theorem q2632 : (Jvm.Cond.privateMethod ({ cls := "SafeCodeModel", name := "typeOf", desc := "(LSafeCodeModel$Program;I)I" } : Jvm.MethodName)) ∈ lw_tbl := lw_at lw_m10 226 rfl
theorem q2633 : (Jvm.Cond.instanceMethod ({ cls := "SafeCodeModel", name := "typeOf", desc := "(LSafeCodeModel$Program;I)I" } : Jvm.MethodName)) ∈ lw_all := lw_g (lw_at lw_m10 227 rfl) rfl
theorem q2634 : (Jvm.Cond.code ({ cls := "SafeCodeModel", name := "typeOf", desc := "(LSafeCodeModel$Program;I)I" } : Jvm.MethodName) prog_17_method_29_code (6 : Nat) (Option.some Jvm.ClassFile.FieldType.int)) ∈ lw_all := lw_g (lw_at lw_m10 228 rfl) rfl
theorem q2635 : (Jvm.Cond.methodLink "SafeCodeModel" (311 : Nat) ({ cls := "SafeCodeModel", name := "body", desc := "(LSafeCodeModel$Program;II)Z" } : Jvm.MethodName)) ∈ lw_all := lw_g (lw_at lw_m10 229 rfl) rfl
theorem q2636 : (Jvm.Cond.privateMethod ({ cls := "SafeCodeModel", name := "body", desc := "(LSafeCodeModel$Program;II)Z" } : Jvm.MethodName)) ∈ lw_tbl := lw_at lw_m10 230 rfl
theorem q2637 : (Jvm.Cond.instanceMethod ({ cls := "SafeCodeModel", name := "body", desc := "(LSafeCodeModel$Program;II)Z" } : Jvm.MethodName)) ∈ lw_all := lw_g (lw_at lw_m10 231 rfl) rfl
theorem q2638 : (Jvm.Cond.code ({ cls := "SafeCodeModel", name := "body", desc := "(LSafeCodeModel$Program;II)Z" } : Jvm.MethodName) prog_17_method_39_code (12 : Nat) (Option.some Jvm.ClassFile.FieldType.boolean)) ∈ lw_all := lw_g (lw_at lw_m10 232 rfl) rfl
theorem q2639 : (Jvm.Cond.methodLink "SafeCodeModel" (331 : Nat) ({ cls := "SafeCodeModel", name := "bodyOf", desc := "(LSafeCodeModel$Program;III)I" } : Jvm.MethodName)) ∈ lw_all := lw_g (lw_at lw_m10 233 rfl) rfl
theorem q2640 : (Jvm.Cond.privateMethod ({ cls := "SafeCodeModel", name := "bodyOf", desc := "(LSafeCodeModel$Program;III)I" } : Jvm.MethodName)) ∈ lw_tbl := lw_at lw_m10 234 rfl
theorem q2641 : (Jvm.Cond.instanceMethod ({ cls := "SafeCodeModel", name := "bodyOf", desc := "(LSafeCodeModel$Program;III)I" } : Jvm.MethodName)) ∈ lw_all := lw_g (lw_at lw_m10 235 rfl) rfl
theorem q2642 : (Jvm.Cond.code ({ cls := "SafeCodeModel", name := "bodyOf", desc := "(LSafeCodeModel$Program;III)I" } : Jvm.MethodName) prog_17_method_35_code (7 : Nat) (Option.some Jvm.ClassFile.FieldType.int)) ∈ lw_all := lw_g (lw_at lw_m10 236 rfl) rfl
theorem q2643 : (Jvm.Cond.methodLink "SafeCodeModel" (337 : Nat) ({ cls := "SafeCodeModel", name := "isSameRow", desc := "(II)Z" } : Jvm.MethodName)) ∈ lw_all := lw_g (lw_at lw_m10 237 rfl) rfl
theorem q2644 : (Jvm.Cond.privateMethod ({ cls := "SafeCodeModel", name := "isSameRow", desc := "(II)Z" } : Jvm.MethodName)) ∈ lw_tbl := lw_at lw_m10 238 rfl
theorem q2645 : (Jvm.Cond.instanceMethod ({ cls := "SafeCodeModel", name := "isSameRow", desc := "(II)Z" } : Jvm.MethodName)) ∈ lw_all := lw_g (lw_at lw_m10 239 rfl) rfl
theorem q2646 : (Jvm.Cond.code ({ cls := "SafeCodeModel", name := "isSameRow", desc := "(II)Z" } : Jvm.MethodName) prog_17_method_38_code (4 : Nat) (Option.some Jvm.ClassFile.FieldType.boolean)) ∈ lw_all := lw_g (lw_at lw_m11 0 rfl) rfl
theorem q2647 : (Jvm.Cond.methodLink "SafeCodeModel" (327 : Nat) ({ cls := "SafeCodeModel", name := "isSameToken", desc := "(II)Z" } : Jvm.MethodName)) ∈ lw_all := lw_g (lw_at lw_m11 1 rfl) rfl
theorem q2648 : (Jvm.Cond.privateMethod ({ cls := "SafeCodeModel", name := "isSameToken", desc := "(II)Z" } : Jvm.MethodName)) ∈ lw_tbl := lw_at lw_m11 2 rfl
theorem q2649 : (Jvm.Cond.instanceMethod ({ cls := "SafeCodeModel", name := "isSameToken", desc := "(II)Z" } : Jvm.MethodName)) ∈ lw_all := lw_g (lw_at lw_m11 3 rfl) rfl
theorem q2650 : (Jvm.Cond.code ({ cls := "SafeCodeModel", name := "isSameToken", desc := "(II)Z" } : Jvm.MethodName) prog_17_method_8_code (3 : Nat) (Option.some Jvm.ClassFile.FieldType.boolean)) ∈ lw_all := lw_g (lw_at lw_m11 4 rfl) rfl
theorem q2651 : (Jvm.Cond.constantLong "SafeCodeModel" (346 : Nat) (12 : Int64)) ∈ lw_all := lw_g (lw_at lw_m11 5 rfl) rfl
theorem q2652 : (Jvm.Cond.methodLink "SafeCodeModel" (314 : Nat) ({ cls := "SafeCodeModel", name := "behindMember", desc := "(I)I" } : Jvm.MethodName)) ∈ lw_all := lw_g (lw_at lw_m11 6 rfl) rfl
theorem q2653 : (Jvm.Cond.privateMethod ({ cls := "SafeCodeModel", name := "behindMember", desc := "(I)I" } : Jvm.MethodName)) ∈ lw_tbl := lw_at lw_m11 7 rfl
theorem q2654 : (Jvm.Cond.instanceMethod ({ cls := "SafeCodeModel", name := "behindMember", desc := "(I)I" } : Jvm.MethodName)) ∈ lw_all := lw_g (lw_at lw_m11 8 rfl) rfl
theorem q2655 : (Jvm.Cond.code ({ cls := "SafeCodeModel", name := "behindMember", desc := "(I)I" } : Jvm.MethodName) prog_17_method_31_code (2 : Nat) (Option.some Jvm.ClassFile.FieldType.int)) ∈ lw_all := lw_g (lw_at lw_m11 9 rfl) rfl
theorem q2656 : (Jvm.Cond.methodLink "SafeCodeModel" (777 : Nat) ({ cls := "SafeCodeModel", name := "lines", desc := "(LSafeCodeModel$Program;)Z" } : Jvm.MethodName)) ∈ lw_all := lw_g (lw_at lw_m11 10 rfl) rfl
theorem q2657 : (Jvm.Cond.privateMethod ({ cls := "SafeCodeModel", name := "lines", desc := "(LSafeCodeModel$Program;)Z" } : Jvm.MethodName)) ∈ lw_tbl := lw_at lw_m11 11 rfl
theorem q2658 : (Jvm.Cond.instanceMethod ({ cls := "SafeCodeModel", name := "lines", desc := "(LSafeCodeModel$Program;)Z" } : Jvm.MethodName)) ∈ lw_all := lw_g (lw_at lw_m11 12 rfl) rfl
theorem q2659 : (Jvm.Cond.code ({ cls := "SafeCodeModel", name := "lines", desc := "(LSafeCodeModel$Program;)Z" } : Jvm.MethodName) prog_17_method_40_code (3 : Nat) (Option.some Jvm.ClassFile.FieldType.boolean)) ∈ lw_all := lw_g (lw_at lw_m11 13 rfl) rfl
theorem q2660 : (Jvm.Cond.methodLink "SafeCodeModel" (365 : Nat) ({ cls := "SafeCodeModel", name := "linesOf", desc := "(LSafeCodeModel$Program;I)Z" } : Jvm.MethodName)) ∈ lw_all := lw_g (lw_at lw_m11 14 rfl) rfl
theorem q2661 : (Jvm.Cond.privateMethod ({ cls := "SafeCodeModel", name := "linesOf", desc := "(LSafeCodeModel$Program;I)Z" } : Jvm.MethodName)) ∈ lw_tbl := lw_at lw_m11 15 rfl
theorem q2662 : (Jvm.Cond.instanceMethod ({ cls := "SafeCodeModel", name := "linesOf", desc := "(LSafeCodeModel$Program;I)Z" } : Jvm.MethodName)) ∈ lw_all := lw_g (lw_at lw_m11 16 rfl) rfl
theorem q2663 : (Jvm.Cond.code ({ cls := "SafeCodeModel", name := "linesOf", desc := "(LSafeCodeModel$Program;I)Z" } : Jvm.MethodName) prog_17_method_42_code (9 : Nat) (Option.some Jvm.ClassFile.FieldType.boolean)) ∈ lw_all := lw_g (lw_at lw_m11 17 rfl) rfl
theorem q2664 : (Jvm.Cond.methodLink "SafeCodeModel" (375 : Nat) ({ cls := "SafeCodeModel", name := "lineLength", desc := "(I)I" } : Jvm.MethodName)) ∈ lw_all := lw_g (lw_at lw_m11 18 rfl) rfl
theorem q2665 : (Jvm.Cond.privateMethod ({ cls := "SafeCodeModel", name := "lineLength", desc := "(I)I" } : Jvm.MethodName)) ∈ lw_tbl := lw_at lw_m11 19 rfl
theorem q2666 : (Jvm.Cond.instanceMethod ({ cls := "SafeCodeModel", name := "lineLength", desc := "(I)I" } : Jvm.MethodName)) ∈ lw_all := lw_g (lw_at lw_m11 20 rfl) rfl
theorem q2667 : (Jvm.Cond.code ({ cls := "SafeCodeModel", name := "lineLength", desc := "(I)I" } : Jvm.MethodName) prog_17_method_41_code (3 : Nat) (Option.some Jvm.ClassFile.FieldType.int)) ∈ lw_all := lw_g (lw_at lw_m11 21 rfl) rfl
theorem q2668 : (Jvm.Cond.methodLink "SafeCodeModel" (381 : Nat) ({ cls := "SafeCodeModel", name := "label", desc := "(I)I" } : Jvm.MethodName)) ∈ lw_all := lw_g (lw_at lw_m11 22 rfl) rfl
theorem q2669 : (Jvm.Cond.privateMethod ({ cls := "SafeCodeModel", name := "label", desc := "(I)I" } : Jvm.MethodName)) ∈ lw_tbl := lw_at lw_m11 23 rfl
theorem q2670 : (Jvm.Cond.instanceMethod ({ cls := "SafeCodeModel", name := "label", desc := "(I)I" } : Jvm.MethodName)) ∈ lw_all := lw_g (lw_at lw_m11 24 rfl) rfl
theorem q2671 : (Jvm.Cond.code ({ cls := "SafeCodeModel", name := "label", desc := "(I)I" } : Jvm.MethodName) prog_17_method_43_code (3 : Nat) (Option.some Jvm.ClassFile.FieldType.int)) ∈ lw_all := lw_g (lw_at lw_m11 25 rfl) rfl
theorem q2672 : (Jvm.Cond.methodLink "SafeCodeModel" (384 : Nat) ({ cls := "SafeCodeModel", name := "catchLine", desc := "(LSafeCodeModel$Program;III)Z" } : Jvm.MethodName)) ∈ lw_all := lw_g (lw_at lw_m11 26 rfl) rfl
theorem q2673 : (Jvm.Cond.privateMethod ({ cls := "SafeCodeModel", name := "catchLine", desc := "(LSafeCodeModel$Program;III)Z" } : Jvm.MethodName)) ∈ lw_tbl := lw_at lw_m11 27 rfl
theorem q2674 : (Jvm.Cond.instanceMethod ({ cls := "SafeCodeModel", name := "catchLine", desc := "(LSafeCodeModel$Program;III)Z" } : Jvm.MethodName)) ∈ lw_all := lw_g (lw_at lw_m11 28 rfl) rfl
theorem q2675 : (Jvm.Cond.code ({ cls := "SafeCodeModel", name := "catchLine", desc := "(LSafeCodeModel$Program;III)Z" } : Jvm.MethodName) prog_17_method_45_code (9 : Nat) (Option.some Jvm.ClassFile.FieldType.boolean)) ∈ lw_all := lw_g (lw_at lw_m11 29 rfl) rfl
theorem q2676 : (Jvm.Cond.methodLink "SafeCodeModel" (394 : Nat) ({ cls := "SafeCodeModel", name := "labelAt", desc := "(I)I" } : Jvm.MethodName)) ∈ lw_all := lw_g (lw_at lw_m11 30 rfl) rfl
theorem q2677 : (Jvm.Cond.privateMethod ({ cls := "SafeCodeModel", name := "labelAt", desc := "(I)I" } : Jvm.MethodName)) ∈ lw_tbl := lw_at lw_m11 31 rfl
theorem q2678 : (Jvm.Cond.instanceMethod ({ cls := "SafeCodeModel", name := "labelAt", desc := "(I)I" } : Jvm.MethodName)) ∈ lw_all := lw_g (lw_at lw_m11 32 rfl) rfl
theorem q2679 : (Jvm.Cond.code ({ cls := "SafeCodeModel", name := "labelAt", desc := "(I)I" } : Jvm.MethodName) prog_17_method_44_code (3 : Nat) (Option.some Jvm.ClassFile.FieldType.int)) ∈ lw_all := lw_g (lw_at lw_m11 33 rfl) rfl
theorem q2680 : (Jvm.Cond.methodLink "SafeCodeModel" (388 : Nat) ({ cls := "SafeCodeModel", name := "code", desc := "(LSafeCodeModel$Program;III)Z" } : Jvm.MethodName)) ∈ lw_all := lw_g (lw_at lw_m11 34 rfl) rfl
theorem q2681 : (Jvm.Cond.privateMethod ({ cls := "SafeCodeModel", name := "code", desc := "(LSafeCodeModel$Program;III)Z" } : Jvm.MethodName)) ∈ lw_tbl := lw_at lw_m11 35 rfl
theorem q2682 : (Jvm.Cond.instanceMethod ({ cls := "SafeCodeModel", name := "code", desc := "(LSafeCodeModel$Program;III)Z" } : Jvm.MethodName)) ∈ lw_all := lw_g (lw_at lw_m11 36 rfl) rfl
theorem q2683 : (Jvm.Cond.code ({ cls := "SafeCodeModel", name := "code", desc := "(LSafeCodeModel$Program;III)Z" } : Jvm.MethodName) prog_17_method_46_code (7 : Nat) (Option.some Jvm.ClassFile.FieldType.boolean)) ∈ lw_all := lw_g (lw_at lw_m11 37 rfl) rfl
theorem q2684 : (Jvm.Cond.methodLink "SafeCodeModel" (420 : Nat) ({ cls := "SafeCodeModel", name := "thresholds", desc := "(LSafeCodeModel$Program;J)V" } : Jvm.MethodName)) ∈ lw_all := lw_g (lw_at lw_m11 38 rfl) rfl
theorem q2685 : (Jvm.Cond.privateMethod ({ cls := "SafeCodeModel", name := "thresholds", desc := "(LSafeCodeModel$Program;J)V" } : Jvm.MethodName)) ∈ lw_tbl := lw_at lw_m11 39 rfl
theorem q2686 : (Jvm.Cond.instanceMethod ({ cls := "SafeCodeModel", name := "thresholds", desc := "(LSafeCodeModel$Program;J)V" } : Jvm.MethodName)) ∈ lw_all := lw_g (lw_at lw_m11 40 rfl) rfl
theorem q2687 : (Jvm.Cond.code ({ cls := "SafeCodeModel", name := "thresholds", desc := "(LSafeCodeModel$Program;J)V" } : Jvm.MethodName) prog_17_method_50_code (6 : Nat) (Option.none : Option Jvm.ClassFile.FieldType)) ∈ lw_all := lw_g (lw_at lw_m11 41 rfl) rfl
theorem q2688 : (Jvm.Cond.methodLink "SafeCodeModel" (435 : Nat) ({ cls := "SafeCodeModel", name := "threshold", desc := "(LSafeCodeModel$Program;J)V" } : Jvm.MethodName)) ∈ lw_all := lw_g (lw_at lw_m11 42 rfl) rfl
theorem q2689 : (Jvm.Cond.privateMethod ({ cls := "SafeCodeModel", name := "threshold", desc := "(LSafeCodeModel$Program;J)V" } : Jvm.MethodName)) ∈ lw_tbl := lw_at lw_m11 43 rfl
theorem q2690 : (Jvm.Cond.instanceMethod ({ cls := "SafeCodeModel", name := "threshold", desc := "(LSafeCodeModel$Program;J)V" } : Jvm.MethodName)) ∈ lw_all := lw_g (lw_at lw_m11 44 rfl) rfl
theorem q2691 : (Jvm.Cond.code ({ cls := "SafeCodeModel", name := "threshold", desc := "(LSafeCodeModel$Program;J)V" } : Jvm.MethodName) prog_17_method_51_code (6 : Nat) (Option.none : Option Jvm.ClassFile.FieldType)) ∈ lw_all := lw_g (lw_at lw_m11 45 rfl) rfl
theorem q2692 : (Jvm.Cond.methodLink "SafeCodeModel" (423 : Nat) ({ cls := "SafeCodeModel", name := "localStep", desc := "(LSafeCodeModel$Program;III)Z" } : Jvm.MethodName)) ∈ lw_all := lw_g (lw_at lw_m11 46 rfl) rfl
theorem q2693 : (Jvm.Cond.privateMethod ({ cls := "SafeCodeModel", name := "localStep", desc := "(LSafeCodeModel$Program;III)Z" } : Jvm.MethodName)) ∈ lw_tbl := lw_at lw_m11 47 rfl
theorem q2694 : (Jvm.Cond.instanceMethod ({ cls := "SafeCodeModel", name := "localStep", desc := "(LSafeCodeModel$Program;III)Z" } : Jvm.MethodName)) ∈ lw_all := lw_g (lw_at lw_m11 48 rfl) rfl
theorem q2695 : (Jvm.Cond.code ({ cls := "SafeCodeModel", name := "localStep", desc := "(LSafeCodeModel$Program;III)Z" } : Jvm.MethodName) prog_17_method_47_code (7 : Nat) (Option.some Jvm.ClassFile.FieldType.boolean)) ∈ lw_all := lw_g (lw_at lw_m11 49 rfl) rfl
theorem q2696 : (Jvm.Cond.methodLink "SafeCodeModel" (426 : Nat) ({ cls := "SafeCodeModel", name := "madeStep", desc := "(LSafeCodeModel$Program;III)Z" } : Jvm.MethodName)) ∈ lw_all := lw_g (lw_at lw_m11 50 rfl) rfl
theorem q2697 : (Jvm.Cond.privateMethod ({ cls := "SafeCodeModel", name := "madeStep", desc := "(LSafeCodeModel$Program;III)Z" } : Jvm.MethodName)) ∈ lw_tbl := lw_at lw_m11 51 rfl
theorem q2698 : (Jvm.Cond.instanceMethod ({ cls := "SafeCodeModel", name := "madeStep", desc := "(LSafeCodeModel$Program;III)Z" } : Jvm.MethodName)) ∈ lw_all := lw_g (lw_at lw_m11 52 rfl) rfl
theorem q2699 : (Jvm.Cond.code ({ cls := "SafeCodeModel", name := "madeStep", desc := "(LSafeCodeModel$Program;III)Z" } : Jvm.MethodName) prog_17_method_48_code (6 : Nat) (Option.some Jvm.ClassFile.FieldType.boolean)) ∈ lw_all := lw_g (lw_at lw_m11 53 rfl) rfl
theorem q2700 : (Jvm.Cond.methodLink "SafeCodeModel" (429 : Nat) ({ cls := "SafeCodeModel", name := "reference", desc := "(LSafeCodeModel$Program;III)Z" } : Jvm.MethodName)) ∈ lw_all := lw_g (lw_at lw_m11 54 rfl) rfl
theorem q2701 : (Jvm.Cond.privateMethod ({ cls := "SafeCodeModel", name := "reference", desc := "(LSafeCodeModel$Program;III)Z" } : Jvm.MethodName)) ∈ lw_tbl := lw_at lw_m11 55 rfl
theorem q2702 : (Jvm.Cond.instanceMethod ({ cls := "SafeCodeModel", name := "reference", desc := "(LSafeCodeModel$Program;III)Z" } : Jvm.MethodName)) ∈ lw_all := lw_g (lw_at lw_m11 56 rfl) rfl
theorem q2703 : (Jvm.Cond.code ({ cls := "SafeCodeModel", name := "reference", desc := "(LSafeCodeModel$Program;III)Z" } : Jvm.MethodName) prog_17_method_49_code (8 : Nat) (Option.some Jvm.ClassFile.FieldType.boolean)) ∈ lw_all := lw_g (lw_at lw_m11 57 rfl) rfl
theorem q2704 : (Jvm.Cond.methodLink "SafeCodeModel" (780 : Nat) ({ cls := "SafeCodeModel", name := "settled", desc := "(LSafeCodeModel$Program;)Z" } : Jvm.MethodName)) ∈ lw_all := lw_g (lw_at lw_m11 58 rfl) rfl
theorem q2705 : (Jvm.Cond.privateMethod ({ cls := "SafeCodeModel", name := "settled", desc := "(LSafeCodeModel$Program;)Z" } : Jvm.MethodName)) ∈ lw_tbl := lw_at lw_m11 59 rfl
theorem q2706 : (Jvm.Cond.instanceMethod ({ cls := "SafeCodeModel", name := "settled", desc := "(LSafeCodeModel$Program;)Z" } : Jvm.MethodName)) ∈ lw_all := lw_g (lw_at lw_m11 60 rfl) rfl
theorem q2707 : (Jvm.Cond.code ({ cls := "SafeCodeModel", name := "settled", desc := "(LSafeCodeModel$Program;)Z" } : Jvm.MethodName) prog_17_method_52_code (5 : Nat) (Option.some Jvm.ClassFile.FieldType.boolean)) ∈ lw_all := lw_g (lw_at lw_m11 61 rfl) rfl
theorem q2708 : (Jvm.Cond.constantLong "SafeCodeModel" (440 : Nat) (-2147483647 : Int64)) ∈ lw_all := lw_g (lw_at lw_m11 62 rfl) rfl
theorem q2709 : (Jvm.Cond.constantLong "SafeCodeModel" (442 : Nat) (2147483646 : Int64)) ∈ lw_all := lw_g (lw_at lw_m11 63 rfl) rfl
theorem q2710 : (Jvm.Cond.stringRef "SafeCodeModel" (456 : Nat) "Main") ∈ lw_tbl := lw_at lw_m11 64 rfl
theorem q2711 : (Jvm.Cond.stringRef "SafeCodeModel" (458 : Nat) "main") ∈ lw_tbl := lw_at lw_m11 65 rfl
theorem q2712 : (Jvm.Cond.methodLink "SafeCodeModel" (783 : Nat) ({ cls := "SafeCodeModel", name := "heights", desc := "(LSafeCodeModel$Program;I)Z" } : Jvm.MethodName)) ∈ lw_all := lw_g (lw_at lw_m11 66 rfl) rfl
theorem q2713 : (Jvm.Cond.privateMethod ({ cls := "SafeCodeModel", name := "heights", desc := "(LSafeCodeModel$Program;I)Z" } : Jvm.MethodName)) ∈ lw_tbl := lw_at lw_m11 67 rfl
theorem q2714 : (Jvm.Cond.instanceMethod ({ cls := "SafeCodeModel", name := "heights", desc := "(LSafeCodeModel$Program;I)Z" } : Jvm.MethodName)) ∈ lw_all := lw_g (lw_at lw_m11 68 rfl) rfl
theorem q2715 : (Jvm.Cond.code ({ cls := "SafeCodeModel", name := "heights", desc := "(LSafeCodeModel$Program;I)Z" } : Jvm.MethodName) prog_17_method_58_code (7 : Nat) (Option.some Jvm.ClassFile.FieldType.boolean)) ∈ lw_all := lw_g (lw_at lw_m11 69 rfl) rfl
theorem q2716 : (Jvm.Cond.methodLink "SafeCodeModel" (459 : Nat) ({ cls := "SafeCodeModel", name := "goodHeights", desc := "(LSafeCodeModel$Program;I)I" } : Jvm.MethodName)) ∈ lw_all := lw_g (lw_at lw_m11 70 rfl) rfl
theorem q2717 : (Jvm.Cond.privateMethod ({ cls := "SafeCodeModel", name := "goodHeights", desc := "(LSafeCodeModel$Program;I)I" } : Jvm.MethodName)) ∈ lw_tbl := lw_at lw_m11 71 rfl
theorem q2718 : (Jvm.Cond.instanceMethod ({ cls := "SafeCodeModel", name := "goodHeights", desc := "(LSafeCodeModel$Program;I)I" } : Jvm.MethodName)) ∈ lw_all := lw_g (lw_at lw_m11 72 rfl) rfl
theorem q2719 : (Jvm.Cond.code ({ cls := "SafeCodeModel", name := "goodHeights", desc := "(LSafeCodeModel$Program;I)I" } : Jvm.MethodName) prog_17_method_60_code (6 : Nat) (Option.some Jvm.ClassFile.FieldType.int)) ∈ lw_all := lw_g (lw_at lw_m11 73 rfl) rfl
theorem q2720 : (Jvm.Cond.methodLink "SafeCodeModel" (477 : Nat) ({ cls := "SafeCodeModel", name := "howMany", desc := "(LSafeCodeModel$Program;I)I" } : Jvm.MethodName)) ∈ lw_all := lw_g (lw_at lw_m11 74 rfl) rfl
theorem q2721 : (Jvm.Cond.static ({ cls := "SafeCodeModel", name := "howMany", desc := "(LSafeCodeModel$Program;I)I" } : Jvm.MethodName)) ∈ lw_all := lw_g (lw_at lw_m11 75 rfl) rfl
theorem q2722 : (Jvm.Cond.code ({ cls := "SafeCodeModel", name := "howMany", desc := "(LSafeCodeModel$Program;I)I" } : Jvm.MethodName) prog_17_method_53_code (3 : Nat) (Option.some Jvm.ClassFile.FieldType.int)) ∈ lw_all := lw_g (lw_at lw_m11 76 rfl) rfl
theorem q2723 : (Jvm.Cond.methodLink "SafeCodeModel" (480 : Nat) ({ cls := "SafeCodeModel", name := "leaves", desc := "(LSafeCodeModel$Program;I)I" } : Jvm.MethodName)) ∈ lw_all := lw_g (lw_at lw_m11 77 rfl) rfl
theorem q2724 : (Jvm.Cond.static ({ cls := "SafeCodeModel", name := "leaves", desc := "(LSafeCodeModel$Program;I)I" } : Jvm.MethodName)) ∈ lw_all := lw_g (lw_at lw_m11 78 rfl) rfl
theorem q2725 : (Jvm.Cond.code ({ cls := "SafeCodeModel", name := "leaves", desc := "(LSafeCodeModel$Program;I)I" } : Jvm.MethodName) prog_17_method_54_code (3 : Nat) (Option.some Jvm.ClassFile.FieldType.int)) ∈ lw_all := lw_g (lw_at lw_m11 79 rfl) rfl
theorem q2726 : (Jvm.Cond.methodLink "SafeCodeModel" (462 : Nat) ({ cls := "SafeCodeModel", name := "hasNext", desc := "(I)Z" } : Jvm.MethodName)) ∈ lw_all := lw_g (lw_at lw_m11 80 rfl) rfl
theorem q2727 : (Jvm.Cond.static ({ cls := "SafeCodeModel", name := "hasNext", desc := "(I)Z" } : Jvm.MethodName)) ∈ lw_all := lw_g (lw_at lw_m11 81 rfl) rfl
theorem q2728 : (Jvm.Cond.code ({ cls := "SafeCodeModel", name := "hasNext", desc := "(I)Z" } : Jvm.MethodName) prog_17_method_55_code (1 : Nat) (Option.some Jvm.ClassFile.FieldType.boolean)) ∈ lw_all := lw_g (lw_at lw_m11 82 rfl) rfl
theorem q2729 : (Jvm.Cond.methodLink "SafeCodeModel" (465 : Nat) ({ cls := "SafeCodeModel", name := "added", desc := "(II)Z" } : Jvm.MethodName)) ∈ lw_all := lw_g (lw_at lw_m11 83 rfl) rfl
theorem q2730 : (Jvm.Cond.privateMethod ({ cls := "SafeCodeModel", name := "added", desc := "(II)Z" } : Jvm.MethodName)) ∈ lw_tbl := lw_at lw_m11 84 rfl
theorem q2731 : (Jvm.Cond.instanceMethod ({ cls := "SafeCodeModel", name := "added", desc := "(II)Z" } : Jvm.MethodName)) ∈ lw_all := lw_g (lw_at lw_m11 85 rfl) rfl
theorem q2732 : (Jvm.Cond.code ({ cls := "SafeCodeModel", name := "added", desc := "(II)Z" } : Jvm.MethodName) prog_17_method_59_code (4 : Nat) (Option.some Jvm.ClassFile.FieldType.boolean)) ∈ lw_all := lw_g (lw_at lw_m11 86 rfl) rfl
theorem q2733 : (Jvm.Cond.methodLink "SafeCodeModel" (468 : Nat) ({ cls := "SafeCodeModel", name := "hasLabel", desc := "(I)Z" } : Jvm.MethodName)) ∈ lw_all := lw_g (lw_at lw_m11 87 rfl) rfl
theorem q2734 : (Jvm.Cond.static ({ cls := "SafeCodeModel", name := "hasLabel", desc := "(I)Z" } : Jvm.MethodName)) ∈ lw_all := lw_g (lw_at lw_m11 88 rfl) rfl
theorem q2735 : (Jvm.Cond.code ({ cls := "SafeCodeModel", name := "hasLabel", desc := "(I)Z" } : Jvm.MethodName) prog_17_method_56_code (1 : Nat) (Option.some Jvm.ClassFile.FieldType.boolean)) ∈ lw_all := lw_g (lw_at lw_m11 89 rfl) rfl
theorem q2736 : (Jvm.Cond.methodLink "SafeCodeModel" (471 : Nat) ({ cls := "SafeCodeModel", name := "covers", desc := "(LSafeCodeModel$Program;II)Z" } : Jvm.MethodName)) ∈ lw_all := lw_g (lw_at lw_m11 90 rfl) rfl
theorem q2737 : (Jvm.Cond.static ({ cls := "SafeCodeModel", name := "covers", desc := "(LSafeCodeModel$Program;II)Z" } : Jvm.MethodName)) ∈ lw_all := lw_g (lw_at lw_m11 91 rfl) rfl
theorem q2738 : (Jvm.Cond.code ({ cls := "SafeCodeModel", name := "covers", desc := "(LSafeCodeModel$Program;II)Z" } : Jvm.MethodName) prog_17_method_57_code (3 : Nat) (Option.some Jvm.ClassFile.FieldType.boolean)) ∈ lw_all := lw_g (lw_at lw_m11 92 rfl) rfl
theorem q2739 : (Jvm.Cond.methodLink "SafeCodeModel" (785 : Nat) ({ cls := "SafeCodeModel", name := "types", desc := "(LSafeCodeModel$Program;I)Z" } : Jvm.MethodName)) ∈ lw_all := lw_g (lw_at lw_m11 93 rfl) rfl
theorem q2740 : (Jvm.Cond.privateMethod ({ cls := "SafeCodeModel", name := "types", desc := "(LSafeCodeModel$Program;I)Z" } : Jvm.MethodName)) ∈ lw_tbl := lw_at lw_m11 94 rfl
theorem q2741 : (Jvm.Cond.instanceMethod ({ cls := "SafeCodeModel", name := "types", desc := "(LSafeCodeModel$Program;I)Z" } : Jvm.MethodName)) ∈ lw_all := lw_g (lw_at lw_m11 95 rfl) rfl
theorem q2742 : (Jvm.Cond.code ({ cls := "SafeCodeModel", name := "types", desc := "(LSafeCodeModel$Program;I)Z" } : Jvm.MethodName) prog_17_method_66_code (6 : Nat) (Option.some Jvm.ClassFile.FieldType.boolean)) ∈ lw_all := lw_g (lw_at lw_m11 96 rfl) rfl
theorem q2743 : (Jvm.Cond.methodLink "SafeCodeModel" (489 : Nat) ({ cls := "SafeCodeModel", name := "typesOn", desc := "(LSafeCodeModel$Program;I)Z" } : Jvm.MethodName)) ∈ lw_all := lw_g (lw_at lw_m11 97 rfl) rfl
theorem q2744 : (Jvm.Cond.privateMethod ({ cls := "SafeCodeModel", name := "typesOn", desc := "(LSafeCodeModel$Program;I)Z" } : Jvm.MethodName)) ∈ lw_tbl := lw_at lw_m11 98 rfl
theorem q2745 : (Jvm.Cond.instanceMethod ({ cls := "SafeCodeModel", name := "typesOn", desc := "(LSafeCodeModel$Program;I)Z" } : Jvm.MethodName)) ∈ lw_all := lw_g (lw_at lw_m11 99 rfl) rfl
theorem q2746 : (Jvm.Cond.code ({ cls := "SafeCodeModel", name := "typesOn", desc := "(LSafeCodeModel$Program;I)Z" } : Jvm.MethodName) prog_17_method_68_code (5 : Nat) (Option.some Jvm.ClassFile.FieldType.boolean)) ∈ lw_all := lw_g (lw_at lw_m11 100 rfl) rfl
theorem q2747 : (Jvm.Cond.methodLink "SafeCodeModel" (498 : Nat) ({ cls := "SafeCodeModel", name := "typesAt", desc := "(LSafeCodeModel$Program;I)V" } : Jvm.MethodName)) ∈ lw_all := lw_g (lw_at lw_m11 101 rfl) rfl
theorem q2748 : (Jvm.Cond.privateMethod ({ cls := "SafeCodeModel", name := "typesAt", desc := "(LSafeCodeModel$Program;I)V" } : Jvm.MethodName)) ∈ lw_tbl := lw_at lw_m11 102 rfl
theorem q2749 : (Jvm.Cond.instanceMethod ({ cls := "SafeCodeModel", name := "typesAt", desc := "(LSafeCodeModel$Program;I)V" } : Jvm.MethodName)) ∈ lw_all := lw_g (lw_at lw_m11 103 rfl) rfl
theorem q2750 : (Jvm.Cond.code ({ cls := "SafeCodeModel", name := "typesAt", desc := "(LSafeCodeModel$Program;I)V" } : Jvm.MethodName) prog_17_method_67_code (4 : Nat) (Option.none : Option Jvm.ClassFile.FieldType)) ∈ lw_all := lw_g (lw_at lw_m11 104 rfl) rfl
theorem q2751 : (Jvm.Cond.methodLink "SafeCodeModel" (502 : Nat) ({ cls := "SafeCodeModel", name := "typesTo", desc := "(LSafeCodeModel$Program;I)Z" } : Jvm.MethodName)) ∈ lw_all := lw_g (lw_at lw_m11 105 rfl) rfl
theorem q2752 : (Jvm.Cond.privateMethod ({ cls := "SafeCodeModel", name := "typesTo", desc := "(LSafeCodeModel$Program;I)Z" } : Jvm.MethodName)) ∈ lw_tbl := lw_at lw_m11 106 rfl
theorem q2753 : (Jvm.Cond.instanceMethod ({ cls := "SafeCodeModel", name := "typesTo", desc := "(LSafeCodeModel$Program;I)Z" } : Jvm.MethodName)) ∈ lw_all := lw_g (lw_at lw_m11 107 rfl) rfl
theorem q2754 : (Jvm.Cond.code ({ cls := "SafeCodeModel", name := "typesTo", desc := "(LSafeCodeModel$Program;I)Z" } : Jvm.MethodName) prog_17_method_69_code (7 : Nat) (Option.some Jvm.ClassFile.FieldType.boolean)) ∈ lw_all := lw_g (lw_at lw_m11 108 rfl) rfl
theorem q2755 : (Jvm.Cond.methodLink "SafeCodeModel" (508 : Nat) ({ cls := "SafeCodeModel", name := "joined", desc := "(LSafeCodeModel$Program;II)I" } : Jvm.MethodName)) ∈ lw_all := lw_g (lw_at lw_m11 109 rfl) rfl
theorem q2756 : (Jvm.Cond.static ({ cls := "SafeCodeModel", name := "joined", desc := "(LSafeCodeModel$Program;II)I" } : Jvm.MethodName)) ∈ lw_all := lw_g (lw_at lw_m11 110 rfl) rfl
theorem q2757 : (Jvm.Cond.code ({ cls := "SafeCodeModel", name := "joined", desc := "(LSafeCodeModel$Program;II)I" } : Jvm.MethodName) prog_17_method_65_code (7 : Nat) (Option.some Jvm.ClassFile.FieldType.int)) ∈ lw_all := lw_g (lw_at lw_m11 111 rfl) rfl
theorem q2758 : (Jvm.Cond.methodLink "SafeCodeModel" (486 : Nat) ({ cls := "SafeCodeModel", name := "isBelow", desc := "(LSafeCodeModel$Program;II)Z" } : Jvm.MethodName)) ∈ lw_all := lw_g (lw_at lw_m11 112 rfl) rfl
theorem q2759 : (Jvm.Cond.static ({ cls := "SafeCodeModel", name := "isBelow", desc := "(LSafeCodeModel$Program;II)Z" } : Jvm.MethodName)) ∈ lw_all := lw_g (lw_at lw_m11 113 rfl) rfl
theorem q2760 : (Jvm.Cond.code ({ cls := "SafeCodeModel", name := "isBelow", desc := "(LSafeCodeModel$Program;II)Z" } : Jvm.MethodName) prog_17_method_64_code (3 : Nat) (Option.some Jvm.ClassFile.FieldType.boolean)) ∈ lw_all := lw_g (lw_at lw_m11 114 rfl) rfl
theorem q2761 : (Jvm.Cond.methodLink "SafeCodeModel" (483 : Nat) ({ cls := "SafeCodeModel", name := "isClass", desc := "(I)Z" } : Jvm.MethodName)) ∈ lw_all := lw_g (lw_at lw_m11 115 rfl) rfl
theorem q2762 : (Jvm.Cond.static ({ cls := "SafeCodeModel", name := "isClass", desc := "(I)Z" } : Jvm.MethodName)) ∈ lw_all := lw_g (lw_at lw_m11 116 rfl) rfl
theorem q2763 : (Jvm.Cond.code ({ cls := "SafeCodeModel", name := "isClass", desc := "(I)Z" } : Jvm.MethodName) prog_17_method_61_code (1 : Nat) (Option.some Jvm.ClassFile.FieldType.boolean)) ∈ lw_all := lw_g (lw_at lw_m11 117 rfl) rfl
theorem q2764 : (Jvm.Cond.methodLink "SafeCodeModel" (505 : Nat) ({ cls := "SafeCodeModel", name := "typesBehind", desc := "(LSafeCodeModel$Program;I)V" } : Jvm.MethodName)) ∈ lw_all := lw_g (lw_at lw_m11 118 rfl) rfl
theorem q2765 : (Jvm.Cond.privateMethod ({ cls := "SafeCodeModel", name := "typesBehind", desc := "(LSafeCodeModel$Program;I)V" } : Jvm.MethodName)) ∈ lw_tbl := lw_at lw_m11 119 rfl
theorem q2766 : (Jvm.Cond.instanceMethod ({ cls := "SafeCodeModel", name := "typesBehind", desc := "(LSafeCodeModel$Program;I)V" } : Jvm.MethodName)) ∈ lw_all := lw_g (lw_at lw_m11 120 rfl) rfl
theorem q2767 : (Jvm.Cond.code ({ cls := "SafeCodeModel", name := "typesBehind", desc := "(LSafeCodeModel$Program;I)V" } : Jvm.MethodName) prog_17_method_71_code (7 : Nat) (Option.none : Option Jvm.ClassFile.FieldType)) ∈ lw_all := lw_g (lw_at lw_m11 121 rfl) rfl
theorem q2768 : (Jvm.Cond.methodLink "SafeCodeModel" (511 : Nat) ({ cls := "SafeCodeModel", name := "leave", desc := "(I)V" } : Jvm.MethodName)) ∈ lw_all := lw_g (lw_at lw_m11 122 rfl) rfl
theorem q2769 : (Jvm.Cond.privateMethod ({ cls := "SafeCodeModel", name := "leave", desc := "(I)V" } : Jvm.MethodName)) ∈ lw_tbl := lw_at lw_m11 123 rfl
theorem q2770 : (Jvm.Cond.instanceMethod ({ cls := "SafeCodeModel", name := "leave", desc := "(I)V" } : Jvm.MethodName)) ∈ lw_all := lw_g (lw_at lw_m11 124 rfl) rfl
theorem q2771 : (Jvm.Cond.code ({ cls := "SafeCodeModel", name := "leave", desc := "(I)V" } : Jvm.MethodName) prog_17_method_70_code (2 : Nat) (Option.none : Option Jvm.ClassFile.FieldType)) ∈ lw_all := lw_g (lw_at lw_m11 125 rfl) rfl
theorem q2772 : (Jvm.Cond.methodLink "SafeCodeModel" (514 : Nat) ({ cls := "SafeCodeModel", name := "elementOf", desc := "(I)I" } : Jvm.MethodName)) ∈ lw_all := lw_g (lw_at lw_m11 126 rfl) rfl
theorem q2773 : (Jvm.Cond.static ({ cls := "SafeCodeModel", name := "elementOf", desc := "(I)I" } : Jvm.MethodName)) ∈ lw_all := lw_g (lw_at lw_m11 127 rfl) rfl
theorem q2774 : (Jvm.Cond.code ({ cls := "SafeCodeModel", name := "elementOf", desc := "(I)I" } : Jvm.MethodName) prog_17_method_72_code (1 : Nat) (Option.some Jvm.ClassFile.FieldType.int)) ∈ lw_all := lw_g (lw_at lw_m11 128 rfl) rfl
theorem q2775 : (Jvm.Cond.methodLink "SafeCodeModel" (492 : Nat) ({ cls := "SafeCodeModel", name := "fits", desc := "(LSafeCodeModel$Program;I)Z" } : Jvm.MethodName)) ∈ lw_all := lw_g (lw_at lw_m11 129 rfl) rfl
theorem q2776 : (Jvm.Cond.privateMethod ({ cls := "SafeCodeModel", name := "fits", desc := "(LSafeCodeModel$Program;I)Z" } : Jvm.MethodName)) ∈ lw_tbl := lw_at lw_m11 130 rfl
theorem q2777 : (Jvm.Cond.instanceMethod ({ cls := "SafeCodeModel", name := "fits", desc := "(LSafeCodeModel$Program;I)Z" } : Jvm.MethodName)) ∈ lw_all := lw_g (lw_at lw_m11 131 rfl) rfl
theorem q2778 : (Jvm.Cond.code ({ cls := "SafeCodeModel", name := "fits", desc := "(LSafeCodeModel$Program;I)Z" } : Jvm.MethodName) prog_17_method_73_code (8 : Nat) (Option.some Jvm.ClassFile.FieldType.boolean)) ∈ lw_all := lw_g (lw_at lw_m11 132 rfl) rfl
theorem q2779 : (Jvm.Cond.methodLink "SafeCodeModel" (517 : Nat) ({ cls := "SafeCodeModel", name := "isReferenceType", desc := "(I)Z" } : Jvm.MethodName)) ∈ lw_all := lw_g (lw_at lw_m11 133 rfl) rfl
theorem q2780 : (Jvm.Cond.static ({ cls := "SafeCodeModel", name := "isReferenceType", desc := "(I)Z" } : Jvm.MethodName)) ∈ lw_all := lw_g (lw_at lw_m11 134 rfl) rfl
theorem q2781 : (Jvm.Cond.code ({ cls := "SafeCodeModel", name := "isReferenceType", desc := "(I)Z" } : Jvm.MethodName) prog_17_method_63_code (1 : Nat) (Option.some Jvm.ClassFile.FieldType.boolean)) ∈ lw_all := lw_g (lw_at lw_m11 135 rfl) rfl
theorem q2782 : (Jvm.Cond.methodLink "SafeCodeModel" (520 : Nat) ({ cls := "SafeCodeModel", name := "isArrayType", desc := "(I)Z" } : Jvm.MethodName)) ∈ lw_all := lw_g (lw_at lw_m11 136 rfl) rfl
theorem q2783 : (Jvm.Cond.static ({ cls := "SafeCodeModel", name := "isArrayType", desc := "(I)Z" } : Jvm.MethodName)) ∈ lw_all := lw_g (lw_at lw_m11 137 rfl) rfl
theorem q2784 : (Jvm.Cond.code ({ cls := "SafeCodeModel", name := "isArrayType", desc := "(I)Z" } : Jvm.MethodName) prog_17_method_62_code (1 : Nat) (Option.some Jvm.ClassFile.FieldType.boolean)) ∈ lw_all := lw_g (lw_at lw_m11 138 rfl) rfl
theorem q2785 : (Jvm.Cond.methodLink "SafeCodeModel" (523 : Nat) ({ cls := "SafeCodeModel", name := "isElement", desc := "(LSafeCodeModel$Program;II)Z" } : Jvm.MethodName)) ∈ lw_all := lw_g (lw_at lw_m11 139 rfl) rfl
theorem q2786 : (Jvm.Cond.static ({ cls := "SafeCodeModel", name := "isElement", desc := "(LSafeCodeModel$Program;II)Z" } : Jvm.MethodName)) ∈ lw_all := lw_g (lw_at lw_m11 140 rfl) rfl
theorem q2787 : (Jvm.Cond.code ({ cls := "SafeCodeModel", name := "isElement", desc := "(LSafeCodeModel$Program;II)Z" } : Jvm.MethodName) prog_17_method_74_code (3 : Nat) (Option.some Jvm.ClassFile.FieldType.boolean)) ∈ lw_all := lw_g (lw_at lw_m11 141 rfl) rfl
theorem q2788 : (Jvm.Cond.methodLink "SafeCodeModel" (526 : Nat) ({ cls := "SafeCodeModel", name := "areArguments", desc := "(LSafeCodeModel$Program;II)Z" } : Jvm.MethodName)) ∈ lw_all := lw_g (lw_at lw_m11 142 rfl) rfl
theorem q2789 : (Jvm.Cond.privateMethod ({ cls := "SafeCodeModel", name := "areArguments", desc := "(LSafeCodeModel$Program;II)Z" } : Jvm.MethodName)) ∈ lw_tbl := lw_at lw_m11 143 rfl
theorem q2790 : (Jvm.Cond.instanceMethod ({ cls := "SafeCodeModel", name := "areArguments", desc := "(LSafeCodeModel$Program;II)Z" } : Jvm.MethodName)) ∈ lw_all := lw_g (lw_at lw_m11 144 rfl) rfl
theorem q2791 : (Jvm.Cond.code ({ cls := "SafeCodeModel", name := "areArguments", desc := "(LSafeCodeModel$Program;II)Z" } : Jvm.MethodName) prog_17_method_75_code (7 : Nat) (Option.some Jvm.ClassFile.FieldType.boolean)) ∈ lw_all := lw_g (lw_at lw_m11 145 rfl) rfl
theorem q2792 : (Jvm.Cond.methodLink "SafeCodeModel" (790 : Nat) ({ cls := "SafeCodeModel", name := "prove", desc := "(LSafeCodeModel$Program;)V" } : Jvm.MethodName)) ∈ lw_all := lw_g (lw_at lw_m11 146 rfl) rfl
theorem q2793 : (Jvm.Cond.privateMethod ({ cls := "SafeCodeModel", name := "prove", desc := "(LSafeCodeModel$Program;)V" } : Jvm.MethodName)) ∈ lw_tbl := lw_at lw_m11 147 rfl
theorem q2794 : (Jvm.Cond.instanceMethod ({ cls := "SafeCodeModel", name := "prove", desc := "(LSafeCodeModel$Program;)V" } : Jvm.MethodName)) ∈ lw_all := lw_g (lw_at lw_m11 148 rfl) rfl
theorem q2795 : (Jvm.Cond.code ({ cls := "SafeCodeModel", name := "prove", desc := "(LSafeCodeModel$Program;)V" } : Jvm.MethodName) prog_17_method_92_code (4 : Nat) (Option.none : Option Jvm.ClassFile.FieldType)) ∈ lw_all := lw_g (lw_at lw_m11 149 rfl) rfl
theorem q2796 : (Jvm.Cond.methodLink "SafeCodeModel" (616 : Nat) ({ cls := "SafeCodeModel", name := "begin", desc := "(LSafeCodeModel$Program;I)V" } : Jvm.MethodName)) ∈ lw_all := lw_g (lw_at lw_m11 150 rfl) rfl
theorem q2797 : (Jvm.Cond.privateMethod ({ cls := "SafeCodeModel", name := "begin", desc := "(LSafeCodeModel$Program;I)V" } : Jvm.MethodName)) ∈ lw_tbl := lw_at lw_m11 151 rfl
theorem q2798 : (Jvm.Cond.instanceMethod ({ cls := "SafeCodeModel", name := "begin", desc := "(LSafeCodeModel$Program;I)V" } : Jvm.MethodName)) ∈ lw_all := lw_g (lw_at lw_m11 152 rfl) rfl
theorem q2799 : (Jvm.Cond.code ({ cls := "SafeCodeModel", name := "begin", desc := "(LSafeCodeModel$Program;I)V" } : Jvm.MethodName) prog_17_method_93_code (5 : Nat) (Option.none : Option Jvm.ClassFile.FieldType)) ∈ lw_all := lw_g (lw_at lw_m11 153 rfl) rfl
theorem q2800 : (Jvm.Cond.methodLink "SafeCodeModel" (560 : Nat) ({ cls := "SafeCodeModel", name := "clear", desc := "(I)V" } : Jvm.MethodName)) ∈ lw_all := lw_g (lw_at lw_m11 154 rfl) rfl
theorem q2801 : (Jvm.Cond.privateMethod ({ cls := "SafeCodeModel", name := "clear", desc := "(I)V" } : Jvm.MethodName)) ∈ lw_tbl := lw_at lw_m11 155 rfl
theorem q2802 : (Jvm.Cond.instanceMethod ({ cls := "SafeCodeModel", name := "clear", desc := "(I)V" } : Jvm.MethodName)) ∈ lw_all := lw_g (lw_at lw_m11 156 rfl) rfl
theorem q2803 : (Jvm.Cond.code ({ cls := "SafeCodeModel", name := "clear", desc := "(I)V" } : Jvm.MethodName) prog_17_method_76_code (2 : Nat) (Option.none : Option Jvm.ClassFile.FieldType)) ∈ lw_all := lw_g (lw_at lw_m11 157 rfl) rfl
theorem q2804 : (Jvm.Cond.methodLink "SafeCodeModel" (622 : Nat) ({ cls := "SafeCodeModel", name := "bring", desc := "(LSafeCodeModel$Program;I)V" } : Jvm.MethodName)) ∈ lw_all := lw_g (lw_at lw_m11 158 rfl) rfl
theorem q2805 : (Jvm.Cond.privateMethod ({ cls := "SafeCodeModel", name := "bring", desc := "(LSafeCodeModel$Program;I)V" } : Jvm.MethodName)) ∈ lw_tbl := lw_at lw_m11 159 rfl
theorem q2806 : (Jvm.Cond.instanceMethod ({ cls := "SafeCodeModel", name := "bring", desc := "(LSafeCodeModel$Program;I)V" } : Jvm.MethodName)) ∈ lw_all := lw_g (lw_at lw_m11 160 rfl) rfl
theorem q2807 : (Jvm.Cond.code ({ cls := "SafeCodeModel", name := "bring", desc := "(LSafeCodeModel$Program;I)V" } : Jvm.MethodName) prog_17_method_79_code (6 : Nat) (Option.none : Option Jvm.ClassFile.FieldType)) ∈ lw_all := lw_g (lw_at lw_m11 161 rfl) rfl
theorem q2808 : (Jvm.Cond.methodLink "SafeCodeModel" (542 : Nat) ({ cls := "SafeCodeModel", name := "joinSlot", desc := "(LSafeCodeModel$Program;II)Z" } : Jvm.MethodName)) ∈ lw_all := lw_g (lw_at lw_m11 162 rfl) rfl
theorem q2809 : (Jvm.Cond.privateMethod ({ cls := "SafeCodeModel", name := "joinSlot", desc := "(LSafeCodeModel$Program;II)Z" } : Jvm.MethodName)) ∈ lw_tbl := lw_at lw_m11 163 rfl
theorem q2810 : (Jvm.Cond.instanceMethod ({ cls := "SafeCodeModel", name := "joinSlot", desc := "(LSafeCodeModel$Program;II)Z" } : Jvm.MethodName)) ∈ lw_all := lw_g (lw_at lw_m11 164 rfl) rfl
theorem q2811 : (Jvm.Cond.code ({ cls := "SafeCodeModel", name := "joinSlot", desc := "(LSafeCodeModel$Program;II)Z" } : Jvm.MethodName) prog_17_method_80_code (5 : Nat) (Option.some Jvm.ClassFile.FieldType.boolean)) ∈ lw_all := lw_g (lw_at lw_m11 165 rfl) rfl
theorem q2812 : (Jvm.Cond.constantLong "SafeCodeModel" (549 : Nat) (-1 : Int64)) ∈ lw_all := lw_g (lw_at lw_m11 166 rfl) rfl
theorem q2813 : (Jvm.Cond.methodLink "SafeCodeModel" (551 : Nat) ({ cls := "java/lang/Math", name := "min", desc := "(II)I" } : Jvm.MethodName)) ∈ lw_all := lw_g (lw_at lw_m11 167 rfl) rfl
theorem q2814 : (Jvm.Cond.methodLink "SafeCodeModel" (557 : Nat) ({ cls := "java/lang/Math", name := "max", desc := "(II)I" } : Jvm.MethodName)) ∈ lw_all := lw_g (lw_at lw_m11 168 rfl) rfl
theorem q2815 : (Jvm.Cond.methodLink "SafeCodeModel" (619 : Nat) ({ cls := "SafeCodeModel", name := "look", desc := "(LSafeCodeModel$Program;I)V" } : Jvm.MethodName)) ∈ lw_all := lw_g (lw_at lw_m11 169 rfl) rfl
theorem q2816 : (Jvm.Cond.privateMethod ({ cls := "SafeCodeModel", name := "look", desc := "(LSafeCodeModel$Program;I)V" } : Jvm.MethodName)) ∈ lw_tbl := lw_at lw_m11 170 rfl
theorem q2817 : (Jvm.Cond.instanceMethod ({ cls := "SafeCodeModel", name := "look", desc := "(LSafeCodeModel$Program;I)V" } : Jvm.MethodName)) ∈ lw_all := lw_g (lw_at lw_m11 171 rfl) rfl
theorem q2818 : (Jvm.Cond.code ({ cls := "SafeCodeModel", name := "look", desc := "(LSafeCodeModel$Program;I)V" } : Jvm.MethodName) prog_17_method_94_code (8 : Nat) (Option.none : Option Jvm.ClassFile.FieldType)) ∈ lw_all := lw_g (lw_at lw_m11 172 rfl) rfl
theorem q2819 : (Jvm.Cond.methodLink "SafeCodeModel" (635 : Nat) ({ cls := "SafeCodeModel", name := "fetch", desc := "(LSafeCodeModel$Program;I)V" } : Jvm.MethodName)) ∈ lw_all := lw_g (lw_at lw_m11 173 rfl) rfl
theorem q2820 : (Jvm.Cond.privateMethod ({ cls := "SafeCodeModel", name := "fetch", desc := "(LSafeCodeModel$Program;I)V" } : Jvm.MethodName)) ∈ lw_tbl := lw_at lw_m11 174 rfl
theorem q2821 : (Jvm.Cond.instanceMethod ({ cls := "SafeCodeModel", name := "fetch", desc := "(LSafeCodeModel$Program;I)V" } : Jvm.MethodName)) ∈ lw_all := lw_g (lw_at lw_m11 175 rfl) rfl
theorem q2822 : (Jvm.Cond.code ({ cls := "SafeCodeModel", name := "fetch", desc := "(LSafeCodeModel$Program;I)V" } : Jvm.MethodName) prog_17_method_78_code (5 : Nat) (Option.none : Option Jvm.ClassFile.FieldType)) ∈ lw_all := lw_g (lw_at lw_m11 176 rfl) rfl
theorem q2823 : (Jvm.Cond.methodLink "SafeCodeModel" (638 : Nat) ({ cls := "SafeCodeModel", name := "way", desc := "(LSafeCodeModel$Program;I)Z" } : Jvm.MethodName)) ∈ lw_all := lw_g (lw_at lw_m11 177 rfl) rfl
theorem q2824 : (Jvm.Cond.privateMethod ({ cls := "SafeCodeModel", name := "way", desc := "(LSafeCodeModel$Program;I)Z" } : Jvm.MethodName)) ∈ lw_tbl := lw_at lw_m11 178 rfl
theorem q2825 : (Jvm.Cond.instanceMethod ({ cls := "SafeCodeModel", name := "way", desc := "(LSafeCodeModel$Program;I)Z" } : Jvm.MethodName)) ∈ lw_all := lw_g (lw_at lw_m11 179 rfl) rfl
theorem q2826 : (Jvm.Cond.code ({ cls := "SafeCodeModel", name := "way", desc := "(LSafeCodeModel$Program;I)Z" } : Jvm.MethodName) prog_17_method_97_code (5 : Nat) (Option.some Jvm.ClassFile.FieldType.boolean)) ∈ lw_all := lw_g (lw_at lw_m11 180 rfl) rfl
theorem q2827 : (Jvm.Cond.constantLong "SafeCodeModel" (599 : Nat) (4611686018427387904 : Int64)) ∈ lw_all := lw_g (lw_at lw_m11 181 rfl) rfl
theorem q2828 : (Jvm.Cond.constantLong "SafeCodeModel" (658 : Nat) (-4611686018427387905 : Int64)) ∈ lw_all := lw_g (lw_at lw_m11 182 rfl) rfl
theorem q2829 : (Jvm.Cond.methodLink "SafeCodeModel" (660 : Nat) ({ cls := "SafeCodeModel", name := "keeps", desc := "(IJ)Z" } : Jvm.MethodName)) ∈ lw_all := lw_g (lw_at lw_m11 183 rfl) rfl
theorem q2830 : (Jvm.Cond.privateMethod ({ cls := "SafeCodeModel", name := "keeps", desc := "(IJ)Z" } : Jvm.MethodName)) ∈ lw_tbl := lw_at lw_m11 184 rfl
theorem q2831 : (Jvm.Cond.instanceMethod ({ cls := "SafeCodeModel", name := "keeps", desc := "(IJ)Z" } : Jvm.MethodName)) ∈ lw_all := lw_g (lw_at lw_m11 185 rfl) rfl
theorem q2832 : (Jvm.Cond.code ({ cls := "SafeCodeModel", name := "keeps", desc := "(IJ)Z" } : Jvm.MethodName) prog_17_method_98_code (5 : Nat) (Option.some Jvm.ClassFile.FieldType.boolean)) ∈ lw_all := lw_g (lw_at lw_m11 186 rfl) rfl
theorem q2833 : (Jvm.Cond.methodLink "SafeCodeModel" (664 : Nat) ({ cls := "SafeCodeModel", name := "ordered", desc := "(LSafeCodeModel$Program;III)Z" } : Jvm.MethodName)) ∈ lw_all := lw_g (lw_at lw_m11 187 rfl) rfl
theorem q2834 : (Jvm.Cond.privateMethod ({ cls := "SafeCodeModel", name := "ordered", desc := "(LSafeCodeModel$Program;III)Z" } : Jvm.MethodName)) ∈ lw_tbl := lw_at lw_m11 188 rfl
theorem q2835 : (Jvm.Cond.instanceMethod ({ cls := "SafeCodeModel", name := "ordered", desc := "(LSafeCodeModel$Program;III)Z" } : Jvm.MethodName)) ∈ lw_all := lw_g (lw_at lw_m11 189 rfl) rfl
theorem q2836 : (Jvm.Cond.code ({ cls := "SafeCodeModel", name := "ordered", desc := "(LSafeCodeModel$Program;III)Z" } : Jvm.MethodName) prog_17_method_99_code (9 : Nat) (Option.some Jvm.ClassFile.FieldType.boolean)) ∈ lw_all := lw_g (lw_at lw_m11 190 rfl) rfl
theorem q2837 : (Jvm.Cond.methodLink "SafeCodeModel" (676 : Nat) ({ cls := "java/lang/Math", name := "min", desc := "(JJ)J" } : Jvm.MethodName)) ∈ lw_all := lw_g (lw_at lw_m11 191 rfl) rfl
theorem q2838 : (Jvm.Cond.methodLink "SafeCodeModel" (679 : Nat) ({ cls := "java/lang/Math", name := "max", desc := "(JJ)J" } : Jvm.MethodName)) ∈ lw_all := lw_g (lw_at lw_m11 192 rfl) rfl
theorem q2839 : (Jvm.Cond.methodLink "SafeCodeModel" (568 : Nat) ({ cls := "SafeCodeModel", name := "notBelow", desc := "(LSafeCodeModel$Program;J)I" } : Jvm.MethodName)) ∈ lw_all := lw_g (lw_at lw_m11 193 rfl) rfl
theorem q2840 : (Jvm.Cond.static ({ cls := "SafeCodeModel", name := "notBelow", desc := "(LSafeCodeModel$Program;J)I" } : Jvm.MethodName)) ∈ lw_all := lw_g (lw_at lw_m11 194 rfl) rfl
theorem q2841 : (Jvm.Cond.code ({ cls := "SafeCodeModel", name := "notBelow", desc := "(LSafeCodeModel$Program;J)I" } : Jvm.MethodName) prog_17_method_82_code (6 : Nat) (Option.some Jvm.ClassFile.FieldType.int)) ∈ lw_all := lw_g (lw_at lw_m11 195 rfl) rfl
theorem q2842 : (Jvm.Cond.methodLink "SafeCodeModel" (563 : Nat) ({ cls := "SafeCodeModel", name := "notAbove", desc := "(LSafeCodeModel$Program;J)I" } : Jvm.MethodName)) ∈ lw_all := lw_g (lw_at lw_m11 196 rfl) rfl
theorem q2843 : (Jvm.Cond.static ({ cls := "SafeCodeModel", name := "notAbove", desc := "(LSafeCodeModel$Program;J)I" } : Jvm.MethodName)) ∈ lw_all := lw_g (lw_at lw_m11 197 rfl) rfl
theorem q2844 : (Jvm.Cond.code ({ cls := "SafeCodeModel", name := "notAbove", desc := "(LSafeCodeModel$Program;J)I" } : Jvm.MethodName) prog_17_method_81_code (6 : Nat) (Option.some Jvm.ClassFile.FieldType.int)) ∈ lw_all := lw_g (lw_at lw_m11 198 rfl) rfl
theorem q2845 : (Jvm.Cond.methodLink "SafeCodeModel" (667 : Nat) ({ cls := "SafeCodeModel", name := "alike", desc := "(II)Z" } : Jvm.MethodName)) ∈ lw_all := lw_g (lw_at lw_m11 199 rfl) rfl
theorem q2846 : (Jvm.Cond.privateMethod ({ cls := "SafeCodeModel", name := "alike", desc := "(II)Z" } : Jvm.MethodName)) ∈ lw_tbl := lw_at lw_m11 200 rfl
theorem q2847 : (Jvm.Cond.instanceMethod ({ cls := "SafeCodeModel", name := "alike", desc := "(II)Z" } : Jvm.MethodName)) ∈ lw_all := lw_g (lw_at lw_m11 201 rfl) rfl
theorem q2848 : (Jvm.Cond.code ({ cls := "SafeCodeModel", name := "alike", desc := "(II)Z" } : Jvm.MethodName) prog_17_method_100_code (5 : Nat) (Option.some Jvm.ClassFile.FieldType.boolean)) ∈ lw_all := lw_g (lw_at lw_m11 202 rfl) rfl
theorem q2849 : (Jvm.Cond.methodLink "SafeCodeModel" (670 : Nat) ({ cls := "SafeCodeModel", name := "apart", desc := "(LSafeCodeModel$Program;II)Z" } : Jvm.MethodName)) ∈ lw_all := lw_g (lw_at lw_m11 203 rfl) rfl
theorem q2850 : (Jvm.Cond.privateMethod ({ cls := "SafeCodeModel", name := "apart", desc := "(LSafeCodeModel$Program;II)Z" } : Jvm.MethodName)) ∈ lw_tbl := lw_at lw_m11 204 rfl
theorem q2851 : (Jvm.Cond.instanceMethod ({ cls := "SafeCodeModel", name := "apart", desc := "(LSafeCodeModel$Program;II)Z" } : Jvm.MethodName)) ∈ lw_all := lw_g (lw_at lw_m11 205 rfl) rfl
theorem q2852 : (Jvm.Cond.code ({ cls := "SafeCodeModel", name := "apart", desc := "(LSafeCodeModel$Program;II)Z" } : Jvm.MethodName) prog_17_method_101_code (8 : Nat) (Option.some Jvm.ClassFile.FieldType.boolean)) ∈ lw_all := lw_g (lw_at lw_m11 206 rfl) rfl
theorem q2853 : (Jvm.Cond.methodLink "SafeCodeModel" (681 : Nat) ({ cls := "SafeCodeModel", name := "without", desc := "(LSafeCodeModel$Program;II)Z" } : Jvm.MethodName)) ∈ lw_all := lw_g (lw_at lw_m11 207 rfl) rfl
theorem q2854 : (Jvm.Cond.privateMethod ({ cls := "SafeCodeModel", name := "without", desc := "(LSafeCodeModel$Program;II)Z" } : Jvm.MethodName)) ∈ lw_tbl := lw_at lw_m11 208 rfl
theorem q2855 : (Jvm.Cond.instanceMethod ({ cls := "SafeCodeModel", name := "without", desc := "(LSafeCodeModel$Program;II)Z" } : Jvm.MethodName)) ∈ lw_all := lw_g (lw_at lw_m11 209 rfl) rfl
theorem q2856 : (Jvm.Cond.code ({ cls := "SafeCodeModel", name := "without", desc := "(LSafeCodeModel$Program;II)Z" } : Jvm.MethodName) prog_17_method_102_code (8 : Nat) (Option.some Jvm.ClassFile.FieldType.boolean)) ∈ lw_all := lw_g (lw_at lw_m11 210 rfl) rfl
theorem q2857 : (Jvm.Cond.methodLink "SafeCodeModel" (673 : Nat) ({ cls := "SafeCodeModel", name := "rangeToLocal", desc := "(I)Z" } : Jvm.MethodName)) ∈ lw_all := lw_g (lw_at lw_m11 211 rfl) rfl
theorem q2858 : (Jvm.Cond.privateMethod ({ cls := "SafeCodeModel", name := "rangeToLocal", desc := "(I)Z" } : Jvm.MethodName)) ∈ lw_tbl := lw_at lw_m11 212 rfl
theorem q2859 : (Jvm.Cond.instanceMethod ({ cls := "SafeCodeModel", name := "rangeToLocal", desc := "(I)Z" } : Jvm.MethodName)) ∈ lw_all := lw_g (lw_at lw_m11 213 rfl) rfl
theorem q2860 : (Jvm.Cond.code ({ cls := "SafeCodeModel", name := "rangeToLocal", desc := "(I)Z" } : Jvm.MethodName) prog_17_method_103_code (3 : Nat) (Option.some Jvm.ClassFile.FieldType.boolean)) ∈ lw_all := lw_g (lw_at lw_m11 214 rfl) rfl
theorem q2861 : (Jvm.Cond.methodLink "SafeCodeModel" (641 : Nat) ({ cls := "SafeCodeModel", name := "goOn", desc := "(LSafeCodeModel$Program;I)V" } : Jvm.MethodName)) ∈ lw_all := lw_g (lw_at lw_m11 215 rfl) rfl
theorem q2862 : (Jvm.Cond.privateMethod ({ cls := "SafeCodeModel", name := "goOn", desc := "(LSafeCodeModel$Program;I)V" } : Jvm.MethodName)) ∈ lw_tbl := lw_at lw_m11 216 rfl
theorem q2863 : (Jvm.Cond.instanceMethod ({ cls := "SafeCodeModel", name := "goOn", desc := "(LSafeCodeModel$Program;I)V" } : Jvm.MethodName)) ∈ lw_all := lw_g (lw_at lw_m11 217 rfl) rfl
theorem q2864 : (Jvm.Cond.code ({ cls := "SafeCodeModel", name := "goOn", desc := "(LSafeCodeModel$Program;I)V" } : Jvm.MethodName) prog_17_method_95_code (3 : Nat) (Option.none : Option Jvm.ClassFile.FieldType)) ∈ lw_all := lw_g (lw_at lw_m11 218 rfl) rfl
theorem q2865 : (Jvm.Cond.methodLink "SafeCodeModel" (644 : Nat) ({ cls := "SafeCodeModel", name := "contrary", desc := "(I)I" } : Jvm.MethodName)) ∈ lw_all := lw_g (lw_at lw_m11 219 rfl) rfl
theorem q2866 : (Jvm.Cond.static ({ cls := "SafeCodeModel", name := "contrary", desc := "(I)I" } : Jvm.MethodName)) ∈ lw_all := lw_g (lw_at lw_m11 220 rfl) rfl
theorem q2867 : (Jvm.Cond.code ({ cls := "SafeCodeModel", name := "contrary", desc := "(I)I" } : Jvm.MethodName) prog_17_method_96_code (1 : Nat) (Option.some Jvm.ClassFile.FieldType.int)) ∈ lw_all := lw_g (lw_at lw_m11 221 rfl) rfl
theorem q2868 : (Jvm.Cond.methodLink "SafeCodeModel" (647 : Nat) ({ cls := "SafeCodeModel", name := "goesBehind", desc := "(LSafeCodeModel$Program;I)Z" } : Jvm.MethodName)) ∈ lw_all := lw_g (lw_at lw_m11 222 rfl) rfl
theorem q2869 : (Jvm.Cond.privateMethod ({ cls := "SafeCodeModel", name := "goesBehind", desc := "(LSafeCodeModel$Program;I)Z" } : Jvm.MethodName)) ∈ lw_tbl := lw_at lw_m11 223 rfl
theorem q2870 : (Jvm.Cond.instanceMethod ({ cls := "SafeCodeModel", name := "goesBehind", desc := "(LSafeCodeModel$Program;I)Z" } : Jvm.MethodName)) ∈ lw_all := lw_g (lw_at lw_m11 224 rfl) rfl
theorem q2871 : (Jvm.Cond.code ({ cls := "SafeCodeModel", name := "goesBehind", desc := "(LSafeCodeModel$Program;I)Z" } : Jvm.MethodName) prog_17_method_105_code (5 : Nat) (Option.some Jvm.ClassFile.FieldType.boolean)) ∈ lw_all := lw_g (lw_at lw_m11 225 rfl) rfl
theorem q2872 : (Jvm.Cond.methodLink "SafeCodeModel" (684 : Nat) ({ cls := "SafeCodeModel", name := "leaveRange", desc := "(LSafeCodeModel$Program;JJ)V" } : Jvm.MethodName)) ∈ lw_all := lw_g (lw_at lw_m11 226 rfl) rfl
theorem q2873 : (Jvm.Cond.privateMethod ({ cls := "SafeCodeModel", name := "leaveRange", desc := "(LSafeCodeModel$Program;JJ)V" } : Jvm.MethodName)) ∈ lw_tbl := lw_at lw_m11 227 rfl
theorem q2874 : (Jvm.Cond.instanceMethod ({ cls := "SafeCodeModel", name := "leaveRange", desc := "(LSafeCodeModel$Program;JJ)V" } : Jvm.MethodName)) ∈ lw_all := lw_g (lw_at lw_m11 228 rfl) rfl
theorem q2875 : (Jvm.Cond.code ({ cls := "SafeCodeModel", name := "leaveRange", desc := "(LSafeCodeModel$Program;JJ)V" } : Jvm.MethodName) prog_17_method_84_code (6 : Nat) (Option.none : Option Jvm.ClassFile.FieldType)) ∈ lw_all := lw_g (lw_at lw_m11 229 rfl) rfl
theorem q2876 : (Jvm.Cond.methodLink "SafeCodeModel" (572 : Nat) ({ cls := "SafeCodeModel", name := "range", desc := "(LSafeCodeModel$Program;IJJ)V" } : Jvm.MethodName)) ∈ lw_all := lw_g (lw_at lw_m11 230 rfl) rfl
theorem q2877 : (Jvm.Cond.privateMethod ({ cls := "SafeCodeModel", name := "range", desc := "(LSafeCodeModel$Program;IJJ)V" } : Jvm.MethodName)) ∈ lw_tbl := lw_at lw_m11 231 rfl
theorem q2878 : (Jvm.Cond.instanceMethod ({ cls := "SafeCodeModel", name := "range", desc := "(LSafeCodeModel$Program;IJJ)V" } : Jvm.MethodName)) ∈ lw_all := lw_g (lw_at lw_m11 232 rfl) rfl
theorem q2879 : (Jvm.Cond.code ({ cls := "SafeCodeModel", name := "range", desc := "(LSafeCodeModel$Program;IJJ)V" } : Jvm.MethodName) prog_17_method_83_code (8 : Nat) (Option.none : Option Jvm.ClassFile.FieldType)) ∈ lw_all := lw_g (lw_at lw_m11 233 rfl) rfl
theorem q2880 : (Jvm.Cond.constant "SafeCodeModel" (567 : Nat) (-2147483648 : Int32)) ∈ lw_all := lw_g (lw_at lw_m11 234 rfl) rfl
theorem q2881 : (Jvm.Cond.constant "SafeCodeModel" (571 : Nat) (2147483647 : Int32)) ∈ lw_all := lw_g (lw_at lw_m11 235 rfl) rfl
theorem q2882 : (Jvm.Cond.methodLink "SafeCodeModel" (654 : Nat) ({ cls := "SafeCodeModel", name := "leaveSites", desc := "(J)V" } : Jvm.MethodName)) ∈ lw_all := lw_g (lw_at lw_m11 236 rfl) rfl
theorem q2883 : (Jvm.Cond.privateMethod ({ cls := "SafeCodeModel", name := "leaveSites", desc := "(J)V" } : Jvm.MethodName)) ∈ lw_tbl := lw_at lw_m11 237 rfl
theorem q2884 : (Jvm.Cond.instanceMethod ({ cls := "SafeCodeModel", name := "leaveSites", desc := "(J)V" } : Jvm.MethodName)) ∈ lw_all := lw_g (lw_at lw_m11 238 rfl) rfl
theorem q2885 : (Jvm.Cond.code ({ cls := "SafeCodeModel", name := "leaveSites", desc := "(J)V" } : Jvm.MethodName) prog_17_method_85_code (3 : Nat) (Option.none : Option Jvm.ClassFile.FieldType)) ∈ lw_all := lw_g (lw_at lw_m11 239 rfl) rfl
theorem q2886 : (Jvm.Cond.methodLink "SafeCodeModel" (688 : Nat) ({ cls := "SafeCodeModel", name := "put", desc := "(II)V" } : Jvm.MethodName)) ∈ lw_all := lw_g (lw_at lw_m12 0 rfl) rfl
theorem q2887 : (Jvm.Cond.privateMethod ({ cls := "SafeCodeModel", name := "put", desc := "(II)V" } : Jvm.MethodName)) ∈ lw_tbl := lw_at lw_m12 1 rfl
theorem q2888 : (Jvm.Cond.instanceMethod ({ cls := "SafeCodeModel", name := "put", desc := "(II)V" } : Jvm.MethodName)) ∈ lw_all := lw_g (lw_at lw_m12 2 rfl) rfl
theorem q2889 : (Jvm.Cond.code ({ cls := "SafeCodeModel", name := "put", desc := "(II)V" } : Jvm.MethodName) prog_17_method_77_code (3 : Nat) (Option.none : Option Jvm.ClassFile.FieldType)) ∈ lw_all := lw_g (lw_at lw_m12 3 rfl) rfl
theorem q2890 : (Jvm.Cond.methodLink "SafeCodeModel" (692 : Nat) ({ cls := "SafeCodeModel", name := "changing", desc := "(I)V" } : Jvm.MethodName)) ∈ lw_all := lw_g (lw_at lw_m12 4 rfl) rfl
theorem q2891 : (Jvm.Cond.privateMethod ({ cls := "SafeCodeModel", name := "changing", desc := "(I)V" } : Jvm.MethodName)) ∈ lw_tbl := lw_at lw_m12 5 rfl
theorem q2892 : (Jvm.Cond.instanceMethod ({ cls := "SafeCodeModel", name := "changing", desc := "(I)V" } : Jvm.MethodName)) ∈ lw_all := lw_g (lw_at lw_m12 6 rfl) rfl
theorem q2893 : (Jvm.Cond.code ({ cls := "SafeCodeModel", name := "changing", desc := "(I)V" } : Jvm.MethodName) prog_17_method_104_code (4 : Nat) (Option.none : Option Jvm.ClassFile.FieldType)) ∈ lw_all := lw_g (lw_at lw_m12 7 rfl) rfl
theorem q2894 : (Jvm.Cond.methodLink "SafeCodeModel" (695 : Nat) ({ cls := "SafeCodeModel", name := "made", desc := "(LSafeCodeModel$Program;I)Z" } : Jvm.MethodName)) ∈ lw_all := lw_g (lw_at lw_m12 8 rfl) rfl
theorem q2895 : (Jvm.Cond.privateMethod ({ cls := "SafeCodeModel", name := "made", desc := "(LSafeCodeModel$Program;I)Z" } : Jvm.MethodName)) ∈ lw_tbl := lw_at lw_m12 9 rfl
theorem q2896 : (Jvm.Cond.instanceMethod ({ cls := "SafeCodeModel", name := "made", desc := "(LSafeCodeModel$Program;I)Z" } : Jvm.MethodName)) ∈ lw_all := lw_g (lw_at lw_m12 10 rfl) rfl
theorem q2897 : (Jvm.Cond.code ({ cls := "SafeCodeModel", name := "made", desc := "(LSafeCodeModel$Program;I)Z" } : Jvm.MethodName) prog_17_method_112_code (5 : Nat) (Option.some Jvm.ClassFile.FieldType.boolean)) ∈ lw_all := lw_g (lw_at lw_m12 11 rfl) rfl
theorem q2898 : (Jvm.Cond.methodLink "SafeCodeModel" (748 : Nat) ({ cls := "SafeCodeModel", name := "joinNothing", desc := "(LSafeCodeModel$Program;II)V" } : Jvm.MethodName)) ∈ lw_all := lw_g (lw_at lw_m12 12 rfl) rfl
theorem q2899 : (Jvm.Cond.privateMethod ({ cls := "SafeCodeModel", name := "joinNothing", desc := "(LSafeCodeModel$Program;II)V" } : Jvm.MethodName)) ∈ lw_tbl := lw_at lw_m12 13 rfl
theorem q2900 : (Jvm.Cond.instanceMethod ({ cls := "SafeCodeModel", name := "joinNothing", desc := "(LSafeCodeModel$Program;II)V" } : Jvm.MethodName)) ∈ lw_all := lw_g (lw_at lw_m12 14 rfl) rfl
theorem q2901 : (Jvm.Cond.code ({ cls := "SafeCodeModel", name := "joinNothing", desc := "(LSafeCodeModel$Program;II)V" } : Jvm.MethodName) prog_17_method_89_code (4 : Nat) (Option.none : Option Jvm.ClassFile.FieldType)) ∈ lw_all := lw_g (lw_at lw_m12 15 rfl) rfl
theorem q2902 : (Jvm.Cond.methodLink "SafeCodeModel" (591 : Nat) ({ cls := "SafeCodeModel", name := "joinRange", desc := "(LSafeCodeModel$Program;III)V" } : Jvm.MethodName)) ∈ lw_all := lw_g (lw_at lw_m12 16 rfl) rfl
theorem q2903 : (Jvm.Cond.privateMethod ({ cls := "SafeCodeModel", name := "joinRange", desc := "(LSafeCodeModel$Program;III)V" } : Jvm.MethodName)) ∈ lw_tbl := lw_at lw_m12 17 rfl
theorem q2904 : (Jvm.Cond.instanceMethod ({ cls := "SafeCodeModel", name := "joinRange", desc := "(LSafeCodeModel$Program;III)V" } : Jvm.MethodName)) ∈ lw_all := lw_g (lw_at lw_m12 18 rfl) rfl
theorem q2905 : (Jvm.Cond.code ({ cls := "SafeCodeModel", name := "joinRange", desc := "(LSafeCodeModel$Program;III)V" } : Jvm.MethodName) prog_17_method_86_code (6 : Nat) (Option.none : Option Jvm.ClassFile.FieldType)) ∈ lw_all := lw_g (lw_at lw_m12 19 rfl) rfl
theorem q2906 : (Jvm.Cond.methodLink "SafeCodeModel" (595 : Nat) ({ cls := "SafeCodeModel", name := "joinSites", desc := "(LSafeCodeModel$Program;IJ)V" } : Jvm.MethodName)) ∈ lw_all := lw_g (lw_at lw_m12 20 rfl) rfl
theorem q2907 : (Jvm.Cond.privateMethod ({ cls := "SafeCodeModel", name := "joinSites", desc := "(LSafeCodeModel$Program;IJ)V" } : Jvm.MethodName)) ∈ lw_tbl := lw_at lw_m12 21 rfl
theorem q2908 : (Jvm.Cond.instanceMethod ({ cls := "SafeCodeModel", name := "joinSites", desc := "(LSafeCodeModel$Program;IJ)V" } : Jvm.MethodName)) ∈ lw_all := lw_g (lw_at lw_m12 22 rfl) rfl
theorem q2909 : (Jvm.Cond.code ({ cls := "SafeCodeModel", name := "joinSites", desc := "(LSafeCodeModel$Program;IJ)V" } : Jvm.MethodName) prog_17_method_87_code (5 : Nat) (Option.none : Option Jvm.ClassFile.FieldType)) ∈ lw_all := lw_g (lw_at lw_m12 23 rfl) rfl
theorem q2910 : (Jvm.Cond.methodLink "SafeCodeModel" (698 : Nat) ({ cls := "SafeCodeModel", name := "madeArray", desc := "(LSafeCodeModel$Program;I)Z" } : Jvm.MethodName)) ∈ lw_all := lw_g (lw_at lw_m12 24 rfl) rfl
theorem q2911 : (Jvm.Cond.privateMethod ({ cls := "SafeCodeModel", name := "madeArray", desc := "(LSafeCodeModel$Program;I)Z" } : Jvm.MethodName)) ∈ lw_tbl := lw_at lw_m12 25 rfl
theorem q2912 : (Jvm.Cond.instanceMethod ({ cls := "SafeCodeModel", name := "madeArray", desc := "(LSafeCodeModel$Program;I)Z" } : Jvm.MethodName)) ∈ lw_all := lw_g (lw_at lw_m12 26 rfl) rfl
theorem q2913 : (Jvm.Cond.code ({ cls := "SafeCodeModel", name := "madeArray", desc := "(LSafeCodeModel$Program;I)Z" } : Jvm.MethodName) prog_17_method_113_code (4 : Nat) (Option.some Jvm.ClassFile.FieldType.boolean)) ∈ lw_all := lw_g (lw_at lw_m12 27 rfl) rfl
theorem q2914 : (Jvm.Cond.methodLink "SafeCodeModel" (701 : Nat) ({ cls := "SafeCodeModel", name := "lengthOf", desc := "(LSafeCodeModel$Program;)Z" } : Jvm.MethodName)) ∈ lw_all := lw_g (lw_at lw_m12 28 rfl) rfl
theorem q2915 : (Jvm.Cond.privateMethod ({ cls := "SafeCodeModel", name := "lengthOf", desc := "(LSafeCodeModel$Program;)Z" } : Jvm.MethodName)) ∈ lw_tbl := lw_at lw_m12 29 rfl
theorem q2916 : (Jvm.Cond.instanceMethod ({ cls := "SafeCodeModel", name := "lengthOf", desc := "(LSafeCodeModel$Program;)Z" } : Jvm.MethodName)) ∈ lw_all := lw_g (lw_at lw_m12 30 rfl) rfl
theorem q2917 : (Jvm.Cond.code ({ cls := "SafeCodeModel", name := "lengthOf", desc := "(LSafeCodeModel$Program;)Z" } : Jvm.MethodName) prog_17_method_115_code (7 : Nat) (Option.some Jvm.ClassFile.FieldType.boolean)) ∈ lw_all := lw_g (lw_at lw_m12 31 rfl) rfl
theorem q2918 : (Jvm.Cond.methodLink "SafeCodeModel" (751 : Nat) ({ cls := "SafeCodeModel", name := "dereference", desc := "(I)Z" } : Jvm.MethodName)) ∈ lw_all := lw_g (lw_at lw_m12 32 rfl) rfl
theorem q2919 : (Jvm.Cond.privateMethod ({ cls := "SafeCodeModel", name := "dereference", desc := "(I)Z" } : Jvm.MethodName)) ∈ lw_tbl := lw_at lw_m12 33 rfl
theorem q2920 : (Jvm.Cond.instanceMethod ({ cls := "SafeCodeModel", name := "dereference", desc := "(I)Z" } : Jvm.MethodName)) ∈ lw_all := lw_g (lw_at lw_m12 34 rfl) rfl
theorem q2921 : (Jvm.Cond.code ({ cls := "SafeCodeModel", name := "dereference", desc := "(I)Z" } : Jvm.MethodName) prog_17_method_114_code (2 : Nat) (Option.some Jvm.ClassFile.FieldType.boolean)) ∈ lw_all := lw_g (lw_at lw_m12 35 rfl) rfl
theorem q2922 : (Jvm.Cond.methodLink "SafeCodeModel" (754 : Nat) ({ cls := "SafeCodeModel", name := "leaveValues", desc := "(LSafeCodeModel$Program;IIJ)Z" } : Jvm.MethodName)) ∈ lw_all := lw_g (lw_at lw_m12 36 rfl) rfl
theorem q2923 : (Jvm.Cond.privateMethod ({ cls := "SafeCodeModel", name := "leaveValues", desc := "(LSafeCodeModel$Program;IIJ)Z" } : Jvm.MethodName)) ∈ lw_tbl := lw_at lw_m12 37 rfl
theorem q2924 : (Jvm.Cond.instanceMethod ({ cls := "SafeCodeModel", name := "leaveValues", desc := "(LSafeCodeModel$Program;IIJ)Z" } : Jvm.MethodName)) ∈ lw_all := lw_g (lw_at lw_m12 38 rfl) rfl
theorem q2925 : (Jvm.Cond.code ({ cls := "SafeCodeModel", name := "leaveValues", desc := "(LSafeCodeModel$Program;IIJ)Z" } : Jvm.MethodName) prog_17_method_90_code (9 : Nat) (Option.some Jvm.ClassFile.FieldType.boolean)) ∈ lw_all := lw_g (lw_at lw_m12 39 rfl) rfl
theorem q2926 : (Jvm.Cond.methodLink "SafeCodeModel" (705 : Nat) ({ cls := "SafeCodeModel", name := "element", desc := "(LSafeCodeModel$Program;Z)Z" } : Jvm.MethodName)) ∈ lw_all := lw_g (lw_at lw_m12 40 rfl) rfl
theorem q2927 : (Jvm.Cond.privateMethod ({ cls := "SafeCodeModel", name := "element", desc := "(LSafeCodeModel$Program;Z)Z" } : Jvm.MethodName)) ∈ lw_tbl := lw_at lw_m12 41 rfl
theorem q2928 : (Jvm.Cond.instanceMethod ({ cls := "SafeCodeModel", name := "element", desc := "(LSafeCodeModel$Program;Z)Z" } : Jvm.MethodName)) ∈ lw_all := lw_g (lw_at lw_m12 42 rfl) rfl
theorem q2929 : (Jvm.Cond.code ({ cls := "SafeCodeModel", name := "element", desc := "(LSafeCodeModel$Program;Z)Z" } : Jvm.MethodName) prog_17_method_116_code (12 : Nat) (Option.some Jvm.ClassFile.FieldType.boolean)) ∈ lw_all := lw_g (lw_at lw_m12 43 rfl) rfl
theorem q2930 : (Jvm.Cond.methodLink "SafeCodeModel" (758 : Nat) ({ cls := "SafeCodeModel", name := "index", desc := "(LSafeCodeModel$Program;II)Z" } : Jvm.MethodName)) ∈ lw_all := lw_g (lw_at lw_m12 44 rfl) rfl
theorem q2931 : (Jvm.Cond.privateMethod ({ cls := "SafeCodeModel", name := "index", desc := "(LSafeCodeModel$Program;II)Z" } : Jvm.MethodName)) ∈ lw_tbl := lw_at lw_m12 45 rfl
theorem q2932 : (Jvm.Cond.instanceMethod ({ cls := "SafeCodeModel", name := "index", desc := "(LSafeCodeModel$Program;II)Z" } : Jvm.MethodName)) ∈ lw_all := lw_g (lw_at lw_m12 46 rfl) rfl
theorem q2933 : (Jvm.Cond.code ({ cls := "SafeCodeModel", name := "index", desc := "(LSafeCodeModel$Program;II)Z" } : Jvm.MethodName) prog_17_method_117_code (14 : Nat) (Option.some Jvm.ClassFile.FieldType.boolean)) ∈ lw_all := lw_g (lw_at lw_m12 47 rfl) rfl
theorem q2934 : (Jvm.Cond.constantLong "SafeCodeModel" (763 : Nat) (9223372036854775807 : Int64)) ∈ lw_all := lw_g (lw_at lw_m12 48 rfl) rfl
theorem q2935 : (Jvm.Cond.methodLink "SafeCodeModel" (725 : Nat) ({ cls := "SafeCodeModel", name := "joinSlotInto", desc := "(LSafeCodeModel$Program;II)V" } : Jvm.MethodName)) ∈ lw_all := lw_g (lw_at lw_m12 49 rfl) rfl
theorem q2936 : (Jvm.Cond.privateMethod ({ cls := "SafeCodeModel", name := "joinSlotInto", desc := "(LSafeCodeModel$Program;II)V" } : Jvm.MethodName)) ∈ lw_tbl := lw_at lw_m12 50 rfl
theorem q2937 : (Jvm.Cond.instanceMethod ({ cls := "SafeCodeModel", name := "joinSlotInto", desc := "(LSafeCodeModel$Program;II)V" } : Jvm.MethodName)) ∈ lw_all := lw_g (lw_at lw_m12 51 rfl) rfl
theorem q2938 : (Jvm.Cond.code ({ cls := "SafeCodeModel", name := "joinSlotInto", desc := "(LSafeCodeModel$Program;II)V" } : Jvm.MethodName) prog_17_method_88_code (4 : Nat) (Option.none : Option Jvm.ClassFile.FieldType)) ∈ lw_all := lw_g (lw_at lw_m12 52 rfl) rfl
theorem q2939 : (Jvm.Cond.methodLink "SafeCodeModel" (650 : Nat) ({ cls := "SafeCodeModel", name := "sitesBelow", desc := "(LSafeCodeModel$Program;I)J" } : Jvm.MethodName)) ∈ lw_all := lw_g (lw_at lw_m12 53 rfl) rfl
theorem q2940 : (Jvm.Cond.static ({ cls := "SafeCodeModel", name := "sitesBelow", desc := "(LSafeCodeModel$Program;I)J" } : Jvm.MethodName)) ∈ lw_all := lw_g (lw_at lw_m12 54 rfl) rfl
theorem q2941 : (Jvm.Cond.code ({ cls := "SafeCodeModel", name := "sitesBelow", desc := "(LSafeCodeModel$Program;I)J" } : Jvm.MethodName) prog_17_method_91_code (5 : Nat) (Option.some Jvm.ClassFile.FieldType.long)) ∈ lw_all := lw_g (lw_at lw_m12 55 rfl) rfl
theorem q2942 : (Jvm.Cond.methodLink "SafeCodeModel" (709 : Nat) ({ cls := "SafeCodeModel", name := "fieldStep", desc := "(LSafeCodeModel$Program;IZ)Z" } : Jvm.MethodName)) ∈ lw_all := lw_g (lw_at lw_m12 56 rfl) rfl
theorem q2943 : (Jvm.Cond.privateMethod ({ cls := "SafeCodeModel", name := "fieldStep", desc := "(LSafeCodeModel$Program;IZ)Z" } : Jvm.MethodName)) ∈ lw_tbl := lw_at lw_m12 57 rfl
theorem q2944 : (Jvm.Cond.instanceMethod ({ cls := "SafeCodeModel", name := "fieldStep", desc := "(LSafeCodeModel$Program;IZ)Z" } : Jvm.MethodName)) ∈ lw_all := lw_g (lw_at lw_m12 58 rfl) rfl
theorem q2945 : (Jvm.Cond.code ({ cls := "SafeCodeModel", name := "fieldStep", desc := "(LSafeCodeModel$Program;IZ)Z" } : Jvm.MethodName) prog_17_method_118_code (8 : Nat) (Option.some Jvm.ClassFile.FieldType.boolean)) ∈ lw_all := lw_g (lw_at lw_m12 59 rfl) rfl
theorem q2946 : (Jvm.Cond.methodLink "SafeCodeModel" (713 : Nat) ({ cls := "SafeCodeModel", name := "ofType", desc := "(LSafeCodeModel$Program;IZ)Z" } : Jvm.MethodName)) ∈ lw_all := lw_g (lw_at lw_m12 60 rfl) rfl
theorem q2947 : (Jvm.Cond.privateMethod ({ cls := "SafeCodeModel", name := "ofType", desc := "(LSafeCodeModel$Program;IZ)Z" } : Jvm.MethodName)) ∈ lw_tbl := lw_at lw_m12 61 rfl
theorem q2948 : (Jvm.Cond.instanceMethod ({ cls := "SafeCodeModel", name := "ofType", desc := "(LSafeCodeModel$Program;IZ)Z" } : Jvm.MethodName)) ∈ lw_all := lw_g (lw_at lw_m12 62 rfl) rfl
theorem q2949 : (Jvm.Cond.code ({ cls := "SafeCodeModel", name := "ofType", desc := "(LSafeCodeModel$Program;IZ)Z" } : Jvm.MethodName) prog_17_method_119_code (9 : Nat) (Option.some Jvm.ClassFile.FieldType.boolean)) ∈ lw_all := lw_g (lw_at lw_m12 63 rfl) rfl
theorem q2950 : (Jvm.Cond.methodLink "SafeCodeModel" (716 : Nat) ({ cls := "SafeCodeModel", name := "call", desc := "(LSafeCodeModel$Program;IZ)Z" } : Jvm.MethodName)) ∈ lw_all := lw_g (lw_at lw_m12 64 rfl) rfl
theorem q2951 : (Jvm.Cond.privateMethod ({ cls := "SafeCodeModel", name := "call", desc := "(LSafeCodeModel$Program;IZ)Z" } : Jvm.MethodName)) ∈ lw_tbl := lw_at lw_m12 65 rfl
theorem q2952 : (Jvm.Cond.instanceMethod ({ cls := "SafeCodeModel", name := "call", desc := "(LSafeCodeModel$Program;IZ)Z" } : Jvm.MethodName)) ∈ lw_all := lw_g (lw_at lw_m12 66 rfl) rfl
theorem q2953 : (Jvm.Cond.code ({ cls := "SafeCodeModel", name := "call", desc := "(LSafeCodeModel$Program;IZ)Z" } : Jvm.MethodName) prog_17_method_120_code (12 : Nat) (Option.some Jvm.ClassFile.FieldType.boolean)) ∈ lw_all := lw_g (lw_at lw_m12 67 rfl) rfl
theorem q2954 : (Jvm.Cond.methodLink "SafeCodeModel" (719 : Nat) ({ cls := "SafeCodeModel", name := "given", desc := "(LSafeCodeModel$Program;IZ)Z" } : Jvm.MethodName)) ∈ lw_all := lw_g (lw_at lw_m12 68 rfl) rfl
theorem q2955 : (Jvm.Cond.privateMethod ({ cls := "SafeCodeModel", name := "given", desc := "(LSafeCodeModel$Program;IZ)Z" } : Jvm.MethodName)) ∈ lw_tbl := lw_at lw_m12 69 rfl
theorem q2956 : (Jvm.Cond.instanceMethod ({ cls := "SafeCodeModel", name := "given", desc := "(LSafeCodeModel$Program;IZ)Z" } : Jvm.MethodName)) ∈ lw_all := lw_g (lw_at lw_m12 70 rfl) rfl
theorem q2957 : (Jvm.Cond.code ({ cls := "SafeCodeModel", name := "given", desc := "(LSafeCodeModel$Program;IZ)Z" } : Jvm.MethodName) prog_17_method_106_code (4 : Nat) (Option.some Jvm.ClassFile.FieldType.boolean)) ∈ lw_all := lw_g (lw_at lw_m12 71 rfl) rfl
theorem q2958 : (Jvm.Cond.methodLink "SafeCodeModel" (722 : Nat) ({ cls := "SafeCodeModel", name := "numbers", desc := "(LSafeCodeModel$Program;I)Z" } : Jvm.MethodName)) ∈ lw_all := lw_g (lw_at lw_m12 72 rfl) rfl
theorem q2959 : (Jvm.Cond.privateMethod ({ cls := "SafeCodeModel", name := "numbers", desc := "(LSafeCodeModel$Program;I)Z" } : Jvm.MethodName)) ∈ lw_tbl := lw_at lw_m12 73 rfl
theorem q2960 : (Jvm.Cond.instanceMethod ({ cls := "SafeCodeModel", name := "numbers", desc := "(LSafeCodeModel$Program;I)Z" } : Jvm.MethodName)) ∈ lw_all := lw_g (lw_at lw_m12 74 rfl) rfl
theorem q2961 : (Jvm.Cond.code ({ cls := "SafeCodeModel", name := "numbers", desc := "(LSafeCodeModel$Program;I)Z" } : Jvm.MethodName) prog_17_method_107_code (15 : Nat) (Option.some Jvm.ClassFile.FieldType.boolean)) ∈ lw_all := lw_g (lw_at lw_m12 75 rfl) rfl
theorem q2962 : (Jvm.Cond.methodLink "SafeCodeModel" (729 : Nat) ({ cls := "SafeCodeModel", name := "product", desc := "(LSafeCodeModel$Program;JJJJ)V" } : Jvm.MethodName)) ∈ lw_all := lw_g (lw_at lw_m12 76 rfl) rfl
theorem q2963 : (Jvm.Cond.privateMethod ({ cls := "SafeCodeModel", name := "product", desc := "(LSafeCodeModel$Program;JJJJ)V" } : Jvm.MethodName)) ∈ lw_tbl := lw_at lw_m12 77 rfl
theorem q2964 : (Jvm.Cond.instanceMethod ({ cls := "SafeCodeModel", name := "product", desc := "(LSafeCodeModel$Program;JJJJ)V" } : Jvm.MethodName)) ∈ lw_all := lw_g (lw_at lw_m12 78 rfl) rfl
theorem q2965 : (Jvm.Cond.code ({ cls := "SafeCodeModel", name := "product", desc := "(LSafeCodeModel$Program;JJJJ)V" } : Jvm.MethodName) prog_17_method_108_code (14 : Nat) (Option.none : Option Jvm.ClassFile.FieldType)) ∈ lw_all := lw_g (lw_at lw_m12 79 rfl) rfl
theorem q2966 : (Jvm.Cond.methodLink "SafeCodeModel" (733 : Nat) ({ cls := "SafeCodeModel", name := "quotient", desc := "(LSafeCodeModel$Program;JJJJ)Z" } : Jvm.MethodName)) ∈ lw_all := lw_g (lw_at lw_m12 80 rfl) rfl
theorem q2967 : (Jvm.Cond.privateMethod ({ cls := "SafeCodeModel", name := "quotient", desc := "(LSafeCodeModel$Program;JJJJ)Z" } : Jvm.MethodName)) ∈ lw_tbl := lw_at lw_m12 81 rfl
theorem q2968 : (Jvm.Cond.instanceMethod ({ cls := "SafeCodeModel", name := "quotient", desc := "(LSafeCodeModel$Program;JJJJ)Z" } : Jvm.MethodName)) ∈ lw_all := lw_g (lw_at lw_m12 82 rfl) rfl
theorem q2969 : (Jvm.Cond.code ({ cls := "SafeCodeModel", name := "quotient", desc := "(LSafeCodeModel$Program;JJJJ)Z" } : Jvm.MethodName) prog_17_method_109_code (22 : Nat) (Option.some Jvm.ClassFile.FieldType.boolean)) ∈ lw_all := lw_g (lw_at lw_m12 83 rfl) rfl
theorem q2970 : (Jvm.Cond.methodLink "SafeCodeModel" (744 : Nat) ({ cls := "SafeCodeModel", name := "raisedByZero", desc := "(JJ)V" } : Jvm.MethodName)) ∈ lw_all := lw_g (lw_at lw_m12 84 rfl) rfl
theorem q2971 : (Jvm.Cond.privateMethod ({ cls := "SafeCodeModel", name := "raisedByZero", desc := "(JJ)V" } : Jvm.MethodName)) ∈ lw_tbl := lw_at lw_m12 85 rfl
theorem q2972 : (Jvm.Cond.instanceMethod ({ cls := "SafeCodeModel", name := "raisedByZero", desc := "(JJ)V" } : Jvm.MethodName)) ∈ lw_all := lw_g (lw_at lw_m12 86 rfl) rfl
theorem q2973 : (Jvm.Cond.code ({ cls := "SafeCodeModel", name := "raisedByZero", desc := "(JJ)V" } : Jvm.MethodName) prog_17_method_110_code (5 : Nat) (Option.none : Option Jvm.ClassFile.FieldType)) ∈ lw_all := lw_g (lw_at lw_m12 87 rfl) rfl
theorem q2974 : (Jvm.Cond.methodLink "SafeCodeModel" (737 : Nat) ({ cls := "SafeCodeModel", name := "rest", desc := "(LSafeCodeModel$Program;JJJJ)Z" } : Jvm.MethodName)) ∈ lw_all := lw_g (lw_at lw_m12 88 rfl) rfl
theorem q2975 : (Jvm.Cond.privateMethod ({ cls := "SafeCodeModel", name := "rest", desc := "(LSafeCodeModel$Program;JJJJ)Z" } : Jvm.MethodName)) ∈ lw_tbl := lw_at lw_m12 89 rfl
theorem q2976 : (Jvm.Cond.instanceMethod ({ cls := "SafeCodeModel", name := "rest", desc := "(LSafeCodeModel$Program;JJJJ)Z" } : Jvm.MethodName)) ∈ lw_all := lw_g (lw_at lw_m12 90 rfl) rfl
theorem q2977 : (Jvm.Cond.code ({ cls := "SafeCodeModel", name := "rest", desc := "(LSafeCodeModel$Program;JJJJ)Z" } : Jvm.MethodName) prog_17_method_111_code (12 : Nat) (Option.some Jvm.ClassFile.FieldType.boolean)) ∈ lw_all := lw_g (lw_at lw_m12 91 rfl) rfl
theorem q2978 : (Jvm.Cond.constantLong "SafeCodeModel" (740 : Nat) (2 : Int64)) ∈ lw_all := lw_g (lw_at lw_m12 92 rfl) rfl
theorem q2979 : (Jvm.Cond.constantLong "SafeCodeModel" (742 : Nat) (31 : Int64)) ∈ lw_all := lw_g (lw_at lw_m12 93 rfl) rfl
theorem q2981 : (Jvm.Cond.instanceMethod ({ cls := "SafeCodeModel", name := "faultAt", desc := "()I" } : Jvm.MethodName)) ∈ lw_all := lw_g (lw_at lw_m12 95 rfl) rfl
theorem q2982 : (Jvm.Cond.selects "SafeCodeModel" ({ cls := "SafeCodeModel", name := "faultAt", desc := "()I" } : Jvm.MethodName) ({ cls := "SafeCodeModel", name := "faultAt", desc := "()I" } : Jvm.MethodName)) ∈ lw_all := lw_g (lw_at lw_m12 96 rfl) rfl
theorem q2983 : (Jvm.Cond.code ({ cls := "SafeCodeModel", name := "faultAt", desc := "()I" } : Jvm.MethodName) prog_17_method_123_code (1 : Nat) (Option.some Jvm.ClassFile.FieldType.int)) ∈ lw_all := lw_g (lw_at lw_m12 97 rfl) rfl
theorem q2985 : (Jvm.Cond.instanceMethod ({ cls := "SafeCodeModel", name := "size", desc := "(I)I" } : Jvm.MethodName)) ∈ lw_all := lw_g (lw_at lw_m12 99 rfl) rfl
theorem q2986 : (Jvm.Cond.selects "SafeCodeModel" ({ cls := "SafeCodeModel", name := "size", desc := "(I)I" } : Jvm.MethodName) ({ cls := "SafeCodeModel", name := "size", desc := "(I)I" } : Jvm.MethodName)) ∈ lw_all := lw_g (lw_at lw_m12 100 rfl) rfl
theorem q2987 : (Jvm.Cond.code ({ cls := "SafeCodeModel", name := "size", desc := "(I)I" } : Jvm.MethodName) prog_17_method_124_code (2 : Nat) (Option.some Jvm.ClassFile.FieldType.int)) ∈ lw_all := lw_g (lw_at lw_m12 101 rfl) rfl
theorem q2989 : (Jvm.Cond.instanceMethod ({ cls := "SafeCodeModel", name := "errors", desc := "(I)I" } : Jvm.MethodName)) ∈ lw_all := lw_g (lw_at lw_m12 103 rfl) rfl
theorem q2990 : (Jvm.Cond.selects "SafeCodeModel" ({ cls := "SafeCodeModel", name := "errors", desc := "(I)I" } : Jvm.MethodName) ({ cls := "SafeCodeModel", name := "errors", desc := "(I)I" } : Jvm.MethodName)) ∈ lw_all := lw_g (lw_at lw_m12 104 rfl) rfl
theorem q2991 : (Jvm.Cond.code ({ cls := "SafeCodeModel", name := "errors", desc := "(I)I" } : Jvm.MethodName) prog_17_method_126_code (2 : Nat) (Option.some Jvm.ClassFile.FieldType.int)) ∈ lw_all := lw_g (lw_at lw_m12 105 rfl) rfl
theorem q2992 : (Jvm.Cond.methodLink "SafeCodeModel" (797 : Nat) ({ cls := "SafeCodeModel", name := "isCode", desc := "(I)Z" } : Jvm.MethodName)) ∈ lw_all := lw_g (lw_at lw_m12 106 rfl) rfl
theorem q2993 : (Jvm.Cond.privateMethod ({ cls := "SafeCodeModel", name := "isCode", desc := "(I)Z" } : Jvm.MethodName)) ∈ lw_tbl := lw_at lw_m12 107 rfl
theorem q2994 : (Jvm.Cond.instanceMethod ({ cls := "SafeCodeModel", name := "isCode", desc := "(I)Z" } : Jvm.MethodName)) ∈ lw_all := lw_g (lw_at lw_m12 108 rfl) rfl
theorem q2995 : (Jvm.Cond.code ({ cls := "SafeCodeModel", name := "isCode", desc := "(I)Z" } : Jvm.MethodName) prog_17_method_125_code (2 : Nat) (Option.some Jvm.ClassFile.FieldType.boolean)) ∈ lw_all := lw_g (lw_at lw_m12 109 rfl) rfl
theorem q2997 : (Jvm.Cond.instanceMethod ({ cls := "SafeCodeModel", name := "escapes", desc := "(I)J" } : Jvm.MethodName)) ∈ lw_all := lw_g (lw_at lw_m12 111 rfl) rfl
theorem q2998 : (Jvm.Cond.selects "SafeCodeModel" ({ cls := "SafeCodeModel", name := "escapes", desc := "(I)J" } : Jvm.MethodName) ({ cls := "SafeCodeModel", name := "escapes", desc := "(I)J" } : Jvm.MethodName)) ∈ lw_all := lw_g (lw_at lw_m12 112 rfl) rfl
theorem q2999 : (Jvm.Cond.code ({ cls := "SafeCodeModel", name := "escapes", desc := "(I)J" } : Jvm.MethodName) prog_17_method_127_code (2 : Nat) (Option.some Jvm.ClassFile.FieldType.long)) ∈ lw_all := lw_g (lw_at lw_m12 113 rfl) rfl
theorem q3001 : (Jvm.Cond.instanceMethod ({ cls := "SafeCodeModel", name := "ends", desc := "()J" } : Jvm.MethodName)) ∈ lw_all := lw_g (lw_at lw_m12 115 rfl) rfl
theorem q3002 : (Jvm.Cond.selects "SafeCodeModel" ({ cls := "SafeCodeModel", name := "ends", desc := "()J" } : Jvm.MethodName) ({ cls := "SafeCodeModel", name := "ends", desc := "()J" } : Jvm.MethodName)) ∈ lw_all := lw_g (lw_at lw_m12 116 rfl) rfl
theorem q3003 : (Jvm.Cond.code ({ cls := "SafeCodeModel", name := "ends", desc := "()J" } : Jvm.MethodName) prog_17_method_128_code (1 : Nat) (Option.some Jvm.ClassFile.FieldType.long)) ∈ lw_all := lw_g (lw_at lw_m12 117 rfl) rfl
theorem q3005 : (Jvm.Cond.instanceMethod ({ cls := "SafeCodeModel", name := "kind", desc := "(II)I" } : Jvm.MethodName)) ∈ lw_all := lw_g (lw_at lw_m12 119 rfl) rfl
theorem q3006 : (Jvm.Cond.selects "SafeCodeModel" ({ cls := "SafeCodeModel", name := "kind", desc := "(II)I" } : Jvm.MethodName) ({ cls := "SafeCodeModel", name := "kind", desc := "(II)I" } : Jvm.MethodName)) ∈ lw_all := lw_g (lw_at lw_m12 120 rfl) rfl
theorem q3007 : (Jvm.Cond.code ({ cls := "SafeCodeModel", name := "kind", desc := "(II)I" } : Jvm.MethodName) prog_17_method_130_code (4 : Nat) (Option.some Jvm.ClassFile.FieldType.int)) ∈ lw_all := lw_g (lw_at lw_m12 121 rfl) rfl
theorem q3008 : (Jvm.Cond.methodLink "SafeCodeModel" (800 : Nat) ({ cls := "SafeCodeModel", name := "slot", desc := "(II)I" } : Jvm.MethodName)) ∈ lw_all := lw_g (lw_at lw_m12 122 rfl) rfl
theorem q3009 : (Jvm.Cond.privateMethod ({ cls := "SafeCodeModel", name := "slot", desc := "(II)I" } : Jvm.MethodName)) ∈ lw_tbl := lw_at lw_m12 123 rfl
theorem q3010 : (Jvm.Cond.instanceMethod ({ cls := "SafeCodeModel", name := "slot", desc := "(II)I" } : Jvm.MethodName)) ∈ lw_all := lw_g (lw_at lw_m12 124 rfl) rfl
theorem q3011 : (Jvm.Cond.code ({ cls := "SafeCodeModel", name := "slot", desc := "(II)I" } : Jvm.MethodName) prog_17_method_129_code (3 : Nat) (Option.some Jvm.ClassFile.FieldType.int)) ∈ lw_all := lw_g (lw_at lw_m12 125 rfl) rfl
theorem q3013 : (Jvm.Cond.instanceMethod ({ cls := "SafeCodeModel", name := "low", desc := "(II)I" } : Jvm.MethodName)) ∈ lw_all := lw_g (lw_at lw_m12 127 rfl) rfl
theorem q3014 : (Jvm.Cond.selects "SafeCodeModel" ({ cls := "SafeCodeModel", name := "low", desc := "(II)I" } : Jvm.MethodName) ({ cls := "SafeCodeModel", name := "low", desc := "(II)I" } : Jvm.MethodName)) ∈ lw_all := lw_g (lw_at lw_m12 128 rfl) rfl
theorem q3015 : (Jvm.Cond.code ({ cls := "SafeCodeModel", name := "low", desc := "(II)I" } : Jvm.MethodName) prog_17_method_131_code (3 : Nat) (Option.some Jvm.ClassFile.FieldType.int)) ∈ lw_all := lw_g (lw_at lw_m12 129 rfl) rfl
theorem q3016 : (Jvm.Cond.methodLink "SafeCodeModel" (803 : Nat) ({ cls := "SafeCodeModel", name := "kind", desc := "(II)I" } : Jvm.MethodName)) ∈ lw_all := lw_g (lw_at lw_m12 130 rfl) rfl
theorem q3018 : (Jvm.Cond.instanceMethod ({ cls := "SafeCodeModel", name := "high", desc := "(II)I" } : Jvm.MethodName)) ∈ lw_all := lw_g (lw_at lw_m12 132 rfl) rfl
theorem q3019 : (Jvm.Cond.selects "SafeCodeModel" ({ cls := "SafeCodeModel", name := "high", desc := "(II)I" } : Jvm.MethodName) ({ cls := "SafeCodeModel", name := "high", desc := "(II)I" } : Jvm.MethodName)) ∈ lw_all := lw_g (lw_at lw_m12 133 rfl) rfl
theorem q3020 : (Jvm.Cond.code ({ cls := "SafeCodeModel", name := "high", desc := "(II)I" } : Jvm.MethodName) prog_17_method_132_code (3 : Nat) (Option.some Jvm.ClassFile.FieldType.int)) ∈ lw_all := lw_g (lw_at lw_m12 134 rfl) rfl
theorem q3022 : (Jvm.Cond.instanceMethod ({ cls := "SafeCodeModel", name := "sites", desc := "(II)J" } : Jvm.MethodName)) ∈ lw_all := lw_g (lw_at lw_m12 136 rfl) rfl
theorem q3023 : (Jvm.Cond.selects "SafeCodeModel" ({ cls := "SafeCodeModel", name := "sites", desc := "(II)J" } : Jvm.MethodName) ({ cls := "SafeCodeModel", name := "sites", desc := "(II)J" } : Jvm.MethodName)) ∈ lw_all := lw_g (lw_at lw_m12 137 rfl) rfl
theorem q3024 : (Jvm.Cond.code ({ cls := "SafeCodeModel", name := "sites", desc := "(II)J" } : Jvm.MethodName) prog_17_method_133_code (3 : Nat) (Option.some Jvm.ClassFile.FieldType.long)) ∈ lw_all := lw_g (lw_at lw_m12 138 rfl) rfl
theorem q3026 : (Jvm.Cond.instanceMethod ({ cls := "SafeCodeModel", name := "fact", desc := "(III)I" } : Jvm.MethodName)) ∈ lw_all := lw_g (lw_at lw_m12 140 rfl) rfl
theorem q3027 : (Jvm.Cond.selects "SafeCodeModel" ({ cls := "SafeCodeModel", name := "fact", desc := "(III)I" } : Jvm.MethodName) ({ cls := "SafeCodeModel", name := "fact", desc := "(III)I" } : Jvm.MethodName)) ∈ lw_all := lw_g (lw_at lw_m12 141 rfl) rfl
theorem q3028 : (Jvm.Cond.code ({ cls := "SafeCodeModel", name := "fact", desc := "(III)I" } : Jvm.MethodName) prog_17_method_134_code (5 : Nat) (Option.some Jvm.ClassFile.FieldType.int)) ∈ lw_all := lw_g (lw_at lw_m12 142 rfl) rfl
theorem q3030 : (Jvm.Cond.instanceMethod ({ cls := "SafeCodeModel", name := "lengths", desc := "(II)I" } : Jvm.MethodName)) ∈ lw_all := lw_g (lw_at lw_m12 144 rfl) rfl
theorem q3031 : (Jvm.Cond.selects "SafeCodeModel" ({ cls := "SafeCodeModel", name := "lengths", desc := "(II)I" } : Jvm.MethodName) ({ cls := "SafeCodeModel", name := "lengths", desc := "(II)I" } : Jvm.MethodName)) ∈ lw_all := lw_g (lw_at lw_m12 145 rfl) rfl
theorem q3032 : (Jvm.Cond.code ({ cls := "SafeCodeModel", name := "lengths", desc := "(II)I" } : Jvm.MethodName) prog_17_method_135_code (3 : Nat) (Option.some Jvm.ClassFile.FieldType.int)) ∈ lw_all := lw_g (lw_at lw_m12 146 rfl) rfl
theorem q3034 : (Jvm.Cond.instanceMethod ({ cls := "SafeCodeModel", name := "input", desc := "(I)Z" } : Jvm.MethodName)) ∈ lw_all := lw_g (lw_at lw_m12 148 rfl) rfl
theorem q3035 : (Jvm.Cond.selects "SafeCodeModel" ({ cls := "SafeCodeModel", name := "input", desc := "(I)Z" } : Jvm.MethodName) ({ cls := "SafeCodeModel", name := "input", desc := "(I)Z" } : Jvm.MethodName)) ∈ lw_all := lw_g (lw_at lw_m12 149 rfl) rfl
theorem q3036 : (Jvm.Cond.code ({ cls := "SafeCodeModel", name := "input", desc := "(I)Z" } : Jvm.MethodName) prog_17_method_136_code (2 : Nat) (Option.some Jvm.ClassFile.FieldType.boolean)) ∈ lw_all := lw_g (lw_at lw_m12 150 rfl) rfl
theorem q3038 : (Jvm.Cond.instanceMethod ({ cls := "SafeCodeModel", name := "run", desc := "(I)I" } : Jvm.MethodName)) ∈ lw_all := lw_g (lw_at lw_m12 152 rfl) rfl
theorem q3039 : (Jvm.Cond.selects "SafeCodeModel" ({ cls := "SafeCodeModel", name := "run", desc := "(I)I" } : Jvm.MethodName) ({ cls := "SafeCodeModel", name := "run", desc := "(I)I" } : Jvm.MethodName)) ∈ lw_all := lw_g (lw_at lw_m12 153 rfl) rfl
theorem q3040 : (Jvm.Cond.code ({ cls := "SafeCodeModel", name := "run", desc := "(I)I" } : Jvm.MethodName) prog_17_method_137_code (3 : Nat) (Option.some Jvm.ClassFile.FieldType.int)) ∈ lw_all := lw_g (lw_at lw_m12 154 rfl) rfl
theorem q3041 : (Jvm.Cond.methodLink "SafeCodeModel" (829 : Nat) ({ cls := "SafeCodeModel", name := "enter", desc := "(I)V" } : Jvm.MethodName)) ∈ lw_all := lw_g (lw_at lw_m12 155 rfl) rfl
theorem q3042 : (Jvm.Cond.privateMethod ({ cls := "SafeCodeModel", name := "enter", desc := "(I)V" } : Jvm.MethodName)) ∈ lw_tbl := lw_at lw_m12 156 rfl
theorem q3043 : (Jvm.Cond.instanceMethod ({ cls := "SafeCodeModel", name := "enter", desc := "(I)V" } : Jvm.MethodName)) ∈ lw_all := lw_g (lw_at lw_m12 157 rfl) rfl
theorem q3044 : (Jvm.Cond.code ({ cls := "SafeCodeModel", name := "enter", desc := "(I)V" } : Jvm.MethodName) prog_17_method_138_code (3 : Nat) (Option.none : Option Jvm.ClassFile.FieldType)) ∈ lw_all := lw_g (lw_at lw_m12 158 rfl) rfl
theorem q3045 : (Jvm.Cond.constantLong "SafeCodeModel" (844 : Nat) (1125899906842624 : Int64)) ∈ lw_all := lw_g (lw_at lw_m12 159 rfl) rfl
theorem q3046 : (Jvm.Cond.methodLink "SafeCodeModel" (832 : Nat) ({ cls := "SafeCodeModel", name := "holds", desc := "(I)Z" } : Jvm.MethodName)) ∈ lw_all := lw_g (lw_at lw_m12 160 rfl) rfl
theorem q3047 : (Jvm.Cond.privateMethod ({ cls := "SafeCodeModel", name := "holds", desc := "(I)Z" } : Jvm.MethodName)) ∈ lw_tbl := lw_at lw_m12 161 rfl
theorem q3048 : (Jvm.Cond.instanceMethod ({ cls := "SafeCodeModel", name := "holds", desc := "(I)Z" } : Jvm.MethodName)) ∈ lw_all := lw_g (lw_at lw_m12 162 rfl) rfl
theorem q3049 : (Jvm.Cond.code ({ cls := "SafeCodeModel", name := "holds", desc := "(I)Z" } : Jvm.MethodName) prog_17_method_146_code (5 : Nat) (Option.some Jvm.ClassFile.FieldType.boolean)) ∈ lw_all := lw_g (lw_at lw_m12 163 rfl) rfl
theorem q3050 : (Jvm.Cond.methodLink "SafeCodeModel" (856 : Nat) ({ cls := "SafeCodeModel", name := "local", desc := "(I)J" } : Jvm.MethodName)) ∈ lw_all := lw_g (lw_at lw_m12 164 rfl) rfl
theorem q3051 : (Jvm.Cond.privateMethod ({ cls := "SafeCodeModel", name := "local", desc := "(I)J" } : Jvm.MethodName)) ∈ lw_tbl := lw_at lw_m12 165 rfl
theorem q3052 : (Jvm.Cond.instanceMethod ({ cls := "SafeCodeModel", name := "local", desc := "(I)J" } : Jvm.MethodName)) ∈ lw_all := lw_g (lw_at lw_m12 166 rfl) rfl
theorem q3053 : (Jvm.Cond.code ({ cls := "SafeCodeModel", name := "local", desc := "(I)J" } : Jvm.MethodName) prog_17_method_139_code (2 : Nat) (Option.some Jvm.ClassFile.FieldType.long)) ∈ lw_all := lw_g (lw_at lw_m12 167 rfl) rfl
theorem q3054 : (Jvm.Cond.methodLink "SafeCodeModel" (859 : Nat) ({ cls := "SafeCodeModel", name := "isHeld", desc := "(IJ)Z" } : Jvm.MethodName)) ∈ lw_all := lw_g (lw_at lw_m12 168 rfl) rfl
theorem q3055 : (Jvm.Cond.privateMethod ({ cls := "SafeCodeModel", name := "isHeld", desc := "(IJ)Z" } : Jvm.MethodName)) ∈ lw_tbl := lw_at lw_m12 169 rfl
theorem q3056 : (Jvm.Cond.instanceMethod ({ cls := "SafeCodeModel", name := "isHeld", desc := "(IJ)Z" } : Jvm.MethodName)) ∈ lw_all := lw_g (lw_at lw_m12 170 rfl) rfl
theorem q3057 : (Jvm.Cond.code ({ cls := "SafeCodeModel", name := "isHeld", desc := "(IJ)Z" } : Jvm.MethodName) prog_17_method_147_code (9 : Nat) (Option.some Jvm.ClassFile.FieldType.boolean)) ∈ lw_all := lw_g (lw_at lw_m12 171 rfl) rfl
theorem q3058 : (Jvm.Cond.methodLink "SafeCodeModel" (862 : Nat) ({ cls := "SafeCodeModel", name := "isInt", desc := "(J)Z" } : Jvm.MethodName)) ∈ lw_all := lw_g (lw_at lw_m12 172 rfl) rfl
theorem q3059 : (Jvm.Cond.static ({ cls := "SafeCodeModel", name := "isInt", desc := "(J)Z" } : Jvm.MethodName)) ∈ lw_all := lw_g (lw_at lw_m12 173 rfl) rfl
theorem q3060 : (Jvm.Cond.code ({ cls := "SafeCodeModel", name := "isInt", desc := "(J)Z" } : Jvm.MethodName) prog_17_method_142_code (2 : Nat) (Option.some Jvm.ClassFile.FieldType.boolean)) ∈ lw_all := lw_g (lw_at lw_m12 174 rfl) rfl
theorem q3061 : (Jvm.Cond.constantLong "SafeCodeModel" (846 : Nat) (1099511627776 : Int64)) ∈ lw_all := lw_g (lw_at lw_m12 175 rfl) rfl
theorem q3062 : (Jvm.Cond.methodLink "SafeCodeModel" (865 : Nat) ({ cls := "SafeCodeModel", name := "siteOf", desc := "(J)I" } : Jvm.MethodName)) ∈ lw_all := lw_g (lw_at lw_m12 176 rfl) rfl
theorem q3063 : (Jvm.Cond.privateMethod ({ cls := "SafeCodeModel", name := "siteOf", desc := "(J)I" } : Jvm.MethodName)) ∈ lw_tbl := lw_at lw_m12 177 rfl
theorem q3064 : (Jvm.Cond.instanceMethod ({ cls := "SafeCodeModel", name := "siteOf", desc := "(J)I" } : Jvm.MethodName)) ∈ lw_all := lw_g (lw_at lw_m12 178 rfl) rfl
theorem q3065 : (Jvm.Cond.code ({ cls := "SafeCodeModel", name := "siteOf", desc := "(J)I" } : Jvm.MethodName) prog_17_method_148_code (3 : Nat) (Option.some Jvm.ClassFile.FieldType.int)) ∈ lw_all := lw_g (lw_at lw_m12 179 rfl) rfl
theorem q3066 : (Jvm.Cond.methodLink "SafeCodeModel" (852 : Nat) ({ cls := "SafeCodeModel", name := "objectOf", desc := "(J)I" } : Jvm.MethodName)) ∈ lw_all := lw_g (lw_at lw_m12 180 rfl) rfl
theorem q3067 : (Jvm.Cond.static ({ cls := "SafeCodeModel", name := "objectOf", desc := "(J)I" } : Jvm.MethodName)) ∈ lw_all := lw_g (lw_at lw_m12 181 rfl) rfl
theorem q3068 : (Jvm.Cond.code ({ cls := "SafeCodeModel", name := "objectOf", desc := "(J)I" } : Jvm.MethodName) prog_17_method_144_code (2 : Nat) (Option.some Jvm.ClassFile.FieldType.int)) ∈ lw_all := lw_g (lw_at lw_m12 182 rfl) rfl
theorem q3069 : (Jvm.Cond.methodLink "SafeCodeModel" (868 : Nat) ({ cls := "SafeCodeModel", name := "isArrayValue", desc := "(J)Z" } : Jvm.MethodName)) ∈ lw_all := lw_g (lw_at lw_m12 183 rfl) rfl
theorem q3070 : (Jvm.Cond.privateMethod ({ cls := "SafeCodeModel", name := "isArrayValue", desc := "(J)Z" } : Jvm.MethodName)) ∈ lw_tbl := lw_at lw_m12 184 rfl
theorem q3071 : (Jvm.Cond.instanceMethod ({ cls := "SafeCodeModel", name := "isArrayValue", desc := "(J)Z" } : Jvm.MethodName)) ∈ lw_all := lw_g (lw_at lw_m12 185 rfl) rfl
theorem q3072 : (Jvm.Cond.code ({ cls := "SafeCodeModel", name := "isArrayValue", desc := "(J)Z" } : Jvm.MethodName) prog_17_method_145_code (3 : Nat) (Option.some Jvm.ClassFile.FieldType.boolean)) ∈ lw_all := lw_g (lw_at lw_m12 186 rfl) rfl
theorem q3073 : (Jvm.Cond.methodLink "SafeCodeModel" (848 : Nat) ({ cls := "SafeCodeModel", name := "isObject", desc := "(J)Z" } : Jvm.MethodName)) ∈ lw_all := lw_g (lw_at lw_m12 187 rfl) rfl
theorem q3074 : (Jvm.Cond.static ({ cls := "SafeCodeModel", name := "isObject", desc := "(J)Z" } : Jvm.MethodName)) ∈ lw_all := lw_g (lw_at lw_m12 188 rfl) rfl
theorem q3075 : (Jvm.Cond.code ({ cls := "SafeCodeModel", name := "isObject", desc := "(J)Z" } : Jvm.MethodName) prog_17_method_143_code (2 : Nat) (Option.some Jvm.ClassFile.FieldType.boolean)) ∈ lw_all := lw_g (lw_at lw_m12 189 rfl) rfl
theorem q3076 : (Jvm.Cond.methodLink "SafeCodeModel" (838 : Nat) ({ cls := "SafeCodeModel", name := "step", desc := "(I)V" } : Jvm.MethodName)) ∈ lw_all := lw_g (lw_at lw_m12 190 rfl) rfl
theorem q3077 : (Jvm.Cond.privateMethod ({ cls := "SafeCodeModel", name := "step", desc := "(I)V" } : Jvm.MethodName)) ∈ lw_tbl := lw_at lw_m12 191 rfl
theorem q3078 : (Jvm.Cond.instanceMethod ({ cls := "SafeCodeModel", name := "step", desc := "(I)V" } : Jvm.MethodName)) ∈ lw_all := lw_g (lw_at lw_m12 192 rfl) rfl
theorem q3079 : (Jvm.Cond.code ({ cls := "SafeCodeModel", name := "step", desc := "(I)V" } : Jvm.MethodName) prog_17_method_154_code (13 : Nat) (Option.none : Option Jvm.ClassFile.FieldType)) ∈ lw_all := lw_g (lw_at lw_m12 193 rfl) rfl
theorem q3080 : (Jvm.Cond.methodLink "SafeCodeModel" (882 : Nat) ({ cls := "SafeCodeModel", name := "push", desc := "(J)V" } : Jvm.MethodName)) ∈ lw_all := lw_g (lw_at lw_m12 194 rfl) rfl
theorem q3081 : (Jvm.Cond.privateMethod ({ cls := "SafeCodeModel", name := "push", desc := "(J)V" } : Jvm.MethodName)) ∈ lw_tbl := lw_at lw_m12 195 rfl
theorem q3082 : (Jvm.Cond.instanceMethod ({ cls := "SafeCodeModel", name := "push", desc := "(J)V" } : Jvm.MethodName)) ∈ lw_all := lw_g (lw_at lw_m12 196 rfl) rfl
theorem q3083 : (Jvm.Cond.code ({ cls := "SafeCodeModel", name := "push", desc := "(J)V" } : Jvm.MethodName) prog_17_method_141_code (3 : Nat) (Option.none : Option Jvm.ClassFile.FieldType)) ∈ lw_all := lw_g (lw_at lw_m12 197 rfl) rfl
theorem q3084 : (Jvm.Cond.methodLink "SafeCodeModel" (885 : Nat) ({ cls := "SafeCodeModel", name := "pop", desc := "()J" } : Jvm.MethodName)) ∈ lw_all := lw_g (lw_at lw_m12 198 rfl) rfl
theorem q3085 : (Jvm.Cond.privateMethod ({ cls := "SafeCodeModel", name := "pop", desc := "()J" } : Jvm.MethodName)) ∈ lw_tbl := lw_at lw_m12 199 rfl
theorem q3086 : (Jvm.Cond.instanceMethod ({ cls := "SafeCodeModel", name := "pop", desc := "()J" } : Jvm.MethodName)) ∈ lw_all := lw_g (lw_at lw_m12 200 rfl) rfl
theorem q3087 : (Jvm.Cond.code ({ cls := "SafeCodeModel", name := "pop", desc := "()J" } : Jvm.MethodName) prog_17_method_140_code (1 : Nat) (Option.some Jvm.ClassFile.FieldType.long)) ∈ lw_all := lw_g (lw_at lw_m12 201 rfl) rfl
theorem q3088 : (Jvm.Cond.methodLink "SafeCodeModel" (889 : Nat) ({ cls := "SafeCodeModel", name := "reckon", desc := "(II)V" } : Jvm.MethodName)) ∈ lw_all := lw_g (lw_at lw_m12 202 rfl) rfl
theorem q3089 : (Jvm.Cond.privateMethod ({ cls := "SafeCodeModel", name := "reckon", desc := "(II)V" } : Jvm.MethodName)) ∈ lw_tbl := lw_at lw_m12 203 rfl
theorem q3090 : (Jvm.Cond.instanceMethod ({ cls := "SafeCodeModel", name := "reckon", desc := "(II)V" } : Jvm.MethodName)) ∈ lw_all := lw_g (lw_at lw_m12 204 rfl) rfl
theorem q3091 : (Jvm.Cond.code ({ cls := "SafeCodeModel", name := "reckon", desc := "(II)V" } : Jvm.MethodName) prog_17_method_155_code (5 : Nat) (Option.none : Option Jvm.ClassFile.FieldType)) ∈ lw_all := lw_g (lw_at lw_m12 205 rfl) rfl
theorem q3092 : (Jvm.Cond.methodLink "SafeCodeModel" (902 : Nat) ({ cls := "SafeCodeModel", name := "raise", desc := "(II)V" } : Jvm.MethodName)) ∈ lw_all := lw_g (lw_at lw_m12 206 rfl) rfl
theorem q3093 : (Jvm.Cond.privateMethod ({ cls := "SafeCodeModel", name := "raise", desc := "(II)V" } : Jvm.MethodName)) ∈ lw_tbl := lw_at lw_m12 207 rfl
theorem q3094 : (Jvm.Cond.instanceMethod ({ cls := "SafeCodeModel", name := "raise", desc := "(II)V" } : Jvm.MethodName)) ∈ lw_all := lw_g (lw_at lw_m12 208 rfl) rfl
theorem q3095 : (Jvm.Cond.code ({ cls := "SafeCodeModel", name := "raise", desc := "(II)V" } : Jvm.MethodName) prog_17_method_151_code (5 : Nat) (Option.none : Option Jvm.ClassFile.FieldType)) ∈ lw_all := lw_g (lw_at lw_m12 209 rfl) rfl
theorem q3096 : (Jvm.Cond.methodLink "SafeCodeModel" (874 : Nat) ({ cls := "SafeCodeModel", name := "object", desc := "(IIII)J" } : Jvm.MethodName)) ∈ lw_all := lw_g (lw_at lw_m12 210 rfl) rfl
theorem q3097 : (Jvm.Cond.privateMethod ({ cls := "SafeCodeModel", name := "object", desc := "(IIII)J" } : Jvm.MethodName)) ∈ lw_tbl := lw_at lw_m12 211 rfl
theorem q3098 : (Jvm.Cond.instanceMethod ({ cls := "SafeCodeModel", name := "object", desc := "(IIII)J" } : Jvm.MethodName)) ∈ lw_all := lw_g (lw_at lw_m12 212 rfl) rfl
theorem q3099 : (Jvm.Cond.code ({ cls := "SafeCodeModel", name := "object", desc := "(IIII)J" } : Jvm.MethodName) prog_17_method_150_code (5 : Nat) (Option.some Jvm.ClassFile.FieldType.long)) ∈ lw_all := lw_g (lw_at lw_m12 213 rfl) rfl
theorem q3100 : (Jvm.Cond.methodLink "SafeCodeModel" (871 : Nat) ({ cls := "SafeCodeModel", name := "ended", desc := "(II)V" } : Jvm.MethodName)) ∈ lw_all := lw_g (lw_at lw_m12 214 rfl) rfl
theorem q3101 : (Jvm.Cond.privateMethod ({ cls := "SafeCodeModel", name := "ended", desc := "(II)V" } : Jvm.MethodName)) ∈ lw_tbl := lw_at lw_m12 215 rfl
theorem q3102 : (Jvm.Cond.instanceMethod ({ cls := "SafeCodeModel", name := "ended", desc := "(II)V" } : Jvm.MethodName)) ∈ lw_all := lw_g (lw_at lw_m12 216 rfl) rfl
theorem q3103 : (Jvm.Cond.code ({ cls := "SafeCodeModel", name := "ended", desc := "(II)V" } : Jvm.MethodName) prog_17_method_149_code (3 : Nat) (Option.none : Option Jvm.ClassFile.FieldType)) ∈ lw_all := lw_g (lw_at lw_m12 217 rfl) rfl
theorem q3104 : (Jvm.Cond.methodLink "SafeCodeModel" (878 : Nat) ({ cls := "SafeCodeModel", name := "toss", desc := "(JI)V" } : Jvm.MethodName)) ∈ lw_all := lw_g (lw_at lw_m12 218 rfl) rfl
theorem q3105 : (Jvm.Cond.privateMethod ({ cls := "SafeCodeModel", name := "toss", desc := "(JI)V" } : Jvm.MethodName)) ∈ lw_tbl := lw_at lw_m12 219 rfl
theorem q3106 : (Jvm.Cond.instanceMethod ({ cls := "SafeCodeModel", name := "toss", desc := "(JI)V" } : Jvm.MethodName)) ∈ lw_all := lw_g (lw_at lw_m12 220 rfl) rfl
theorem q3107 : (Jvm.Cond.code ({ cls := "SafeCodeModel", name := "toss", desc := "(JI)V" } : Jvm.MethodName) prog_17_method_152_code (7 : Nat) (Option.none : Option Jvm.ClassFile.FieldType)) ∈ lw_all := lw_g (lw_at lw_m12 221 rfl) rfl
theorem q3108 : (Jvm.Cond.methodLink "SafeCodeModel" (899 : Nat) ({ cls := "SafeCodeModel", name := "next", desc := "()V" } : Jvm.MethodName)) ∈ lw_all := lw_g (lw_at lw_m12 222 rfl) rfl
theorem q3109 : (Jvm.Cond.privateMethod ({ cls := "SafeCodeModel", name := "next", desc := "()V" } : Jvm.MethodName)) ∈ lw_tbl := lw_at lw_m12 223 rfl
theorem q3110 : (Jvm.Cond.instanceMethod ({ cls := "SafeCodeModel", name := "next", desc := "()V" } : Jvm.MethodName)) ∈ lw_all := lw_g (lw_at lw_m12 224 rfl) rfl
theorem q3111 : (Jvm.Cond.code ({ cls := "SafeCodeModel", name := "next", desc := "()V" } : Jvm.MethodName) prog_17_method_153_code (1 : Nat) (Option.none : Option Jvm.ClassFile.FieldType)) ∈ lw_all := lw_g (lw_at lw_m12 225 rfl) rfl
theorem q3112 : (Jvm.Cond.methodLink "SafeCodeModel" (892 : Nat) ({ cls := "SafeCodeModel", name := "branch", desc := "(II)V" } : Jvm.MethodName)) ∈ lw_all := lw_g (lw_at lw_m12 226 rfl) rfl
theorem q3113 : (Jvm.Cond.privateMethod ({ cls := "SafeCodeModel", name := "branch", desc := "(II)V" } : Jvm.MethodName)) ∈ lw_tbl := lw_at lw_m12 227 rfl
theorem q3114 : (Jvm.Cond.instanceMethod ({ cls := "SafeCodeModel", name := "branch", desc := "(II)V" } : Jvm.MethodName)) ∈ lw_all := lw_g (lw_at lw_m12 228 rfl) rfl
theorem q3115 : (Jvm.Cond.code ({ cls := "SafeCodeModel", name := "branch", desc := "(II)V" } : Jvm.MethodName) prog_17_method_156_code (8 : Nat) (Option.none : Option Jvm.ClassFile.FieldType)) ∈ lw_all := lw_g (lw_at lw_m12 229 rfl) rfl
theorem q3116 : (Jvm.Cond.methodLink "SafeCodeModel" (895 : Nat) ({ cls := "SafeCodeModel", name := "objectStep", desc := "(III)V" } : Jvm.MethodName)) ∈ lw_all := lw_g (lw_at lw_m12 230 rfl) rfl
theorem q3117 : (Jvm.Cond.privateMethod ({ cls := "SafeCodeModel", name := "objectStep", desc := "(III)V" } : Jvm.MethodName)) ∈ lw_tbl := lw_at lw_m12 231 rfl
theorem q3118 : (Jvm.Cond.instanceMethod ({ cls := "SafeCodeModel", name := "objectStep", desc := "(III)V" } : Jvm.MethodName)) ∈ lw_all := lw_g (lw_at lw_m12 232 rfl) rfl
theorem q3119 : (Jvm.Cond.code ({ cls := "SafeCodeModel", name := "objectStep", desc := "(III)V" } : Jvm.MethodName) prog_17_method_157_code (18 : Nat) (Option.none : Option Jvm.ClassFile.FieldType)) ∈ lw_all := lw_g (lw_at lw_m12 233 rfl) rfl
theorem q3120 : (Jvm.Cond.methodLink "SafeCodeModel" (905 : Nat) ({ cls := "SafeCodeModel", name := "make", desc := "(III)V" } : Jvm.MethodName)) ∈ lw_all := lw_g (lw_at lw_m12 234 rfl) rfl
theorem q3121 : (Jvm.Cond.privateMethod ({ cls := "SafeCodeModel", name := "make", desc := "(III)V" } : Jvm.MethodName)) ∈ lw_tbl := lw_at lw_m12 235 rfl
theorem q3122 : (Jvm.Cond.instanceMethod ({ cls := "SafeCodeModel", name := "make", desc := "(III)V" } : Jvm.MethodName)) ∈ lw_all := lw_g (lw_at lw_m12 236 rfl) rfl
theorem q3123 : (Jvm.Cond.code ({ cls := "SafeCodeModel", name := "make", desc := "(III)V" } : Jvm.MethodName) prog_17_method_158_code (10 : Nat) (Option.none : Option Jvm.ClassFile.FieldType)) ∈ lw_all := lw_g (lw_at lw_m12 237 rfl) rfl
theorem q3124 : (Jvm.Cond.methodLink "SafeCodeModel" (908 : Nat) ({ cls := "SafeCodeModel", name := "elementStep", desc := "(II)V" } : Jvm.MethodName)) ∈ lw_all := lw_g (lw_at lw_m12 238 rfl) rfl
theorem q3125 : (Jvm.Cond.privateMethod ({ cls := "SafeCodeModel", name := "elementStep", desc := "(II)V" } : Jvm.MethodName)) ∈ lw_tbl := lw_at lw_m12 239 rfl
theorem q3126 : (Jvm.Cond.instanceMethod ({ cls := "SafeCodeModel", name := "elementStep", desc := "(II)V" } : Jvm.MethodName)) ∈ lw_all := lw_g (lw_at lw_m13 0 rfl) rfl
theorem q3127 : (Jvm.Cond.code ({ cls := "SafeCodeModel", name := "elementStep", desc := "(II)V" } : Jvm.MethodName) prog_17_method_159_code (11 : Nat) (Option.none : Option Jvm.ClassFile.FieldType)) ∈ lw_all := lw_g (lw_at lw_m13 1 rfl) rfl
theorem q3128 : (Jvm.Cond.methodLink "SafeCodeModel" (911 : Nat) ({ cls := "SafeCodeModel", name := "callStep", desc := "(III)V" } : Jvm.MethodName)) ∈ lw_all := lw_g (lw_at lw_m13 2 rfl) rfl
theorem q3129 : (Jvm.Cond.privateMethod ({ cls := "SafeCodeModel", name := "callStep", desc := "(III)V" } : Jvm.MethodName)) ∈ lw_tbl := lw_at lw_m13 3 rfl
theorem q3130 : (Jvm.Cond.instanceMethod ({ cls := "SafeCodeModel", name := "callStep", desc := "(III)V" } : Jvm.MethodName)) ∈ lw_all := lw_g (lw_at lw_m13 4 rfl) rfl
theorem q3131 : (Jvm.Cond.code ({ cls := "SafeCodeModel", name := "callStep", desc := "(III)V" } : Jvm.MethodName) prog_17_method_160_code (8 : Nat) (Option.none : Option Jvm.ClassFile.FieldType)) ∈ lw_all := lw_g (lw_at lw_m13 5 rfl) rfl
theorem q3133 : (Jvm.Cond.instanceMethod ({ cls := "SafeCodeModel", name := "steps", desc := "()I" } : Jvm.MethodName)) ∈ lw_all := lw_g (lw_at lw_m13 7 rfl) rfl
theorem q3134 : (Jvm.Cond.selects "SafeCodeModel" ({ cls := "SafeCodeModel", name := "steps", desc := "()I" } : Jvm.MethodName) ({ cls := "SafeCodeModel", name := "steps", desc := "()I" } : Jvm.MethodName)) ∈ lw_all := lw_g (lw_at lw_m13 8 rfl) rfl
theorem q3135 : (Jvm.Cond.code ({ cls := "SafeCodeModel", name := "steps", desc := "()I" } : Jvm.MethodName) prog_17_method_161_code (1 : Nat) (Option.some Jvm.ClassFile.FieldType.int)) ∈ lw_all := lw_g (lw_at lw_m13 9 rfl) rfl
theorem q3137 : (Jvm.Cond.instanceMethod ({ cls := "SafeCodeModel", name := "place", desc := "()I" } : Jvm.MethodName)) ∈ lw_all := lw_g (lw_at lw_m13 11 rfl) rfl
theorem q3138 : (Jvm.Cond.selects "SafeCodeModel" ({ cls := "SafeCodeModel", name := "place", desc := "()I" } : Jvm.MethodName) ({ cls := "SafeCodeModel", name := "place", desc := "()I" } : Jvm.MethodName)) ∈ lw_all := lw_g (lw_at lw_m13 12 rfl) rfl
theorem q3139 : (Jvm.Cond.code ({ cls := "SafeCodeModel", name := "place", desc := "()I" } : Jvm.MethodName) prog_17_method_162_code (1 : Nat) (Option.some Jvm.ClassFile.FieldType.int)) ∈ lw_all := lw_g (lw_at lw_m13 13 rfl) rfl
theorem q3141 : (Jvm.Cond.instanceMethod ({ cls := "SafeCodeModel", name := "thrown", desc := "()I" } : Jvm.MethodName)) ∈ lw_all := lw_g (lw_at lw_m13 15 rfl) rfl
theorem q3142 : (Jvm.Cond.selects "SafeCodeModel" ({ cls := "SafeCodeModel", name := "thrown", desc := "()I" } : Jvm.MethodName) ({ cls := "SafeCodeModel", name := "thrown", desc := "()I" } : Jvm.MethodName)) ∈ lw_all := lw_g (lw_at lw_m13 16 rfl) rfl
theorem q3143 : (Jvm.Cond.code ({ cls := "SafeCodeModel", name := "thrown", desc := "()I" } : Jvm.MethodName) prog_17_method_163_code (1 : Nat) (Option.some Jvm.ClassFile.FieldType.int)) ∈ lw_all := lw_g (lw_at lw_m13 17 rfl) rfl
theorem q3145 : (Jvm.Cond.instanceMethod ({ cls := "SafeCodeModel", name := "written", desc := "()I" } : Jvm.MethodName)) ∈ lw_all := lw_g (lw_at lw_m13 19 rfl) rfl
theorem q3146 : (Jvm.Cond.selects "SafeCodeModel" ({ cls := "SafeCodeModel", name := "written", desc := "()I" } : Jvm.MethodName) ({ cls := "SafeCodeModel", name := "written", desc := "()I" } : Jvm.MethodName)) ∈ lw_all := lw_g (lw_at lw_m13 20 rfl) rfl
theorem q3147 : (Jvm.Cond.code ({ cls := "SafeCodeModel", name := "written", desc := "()I" } : Jvm.MethodName) prog_17_method_164_code (1 : Nat) (Option.some Jvm.ClassFile.FieldType.int)) ∈ lw_all := lw_g (lw_at lw_m13 21 rfl) rfl
theorem q3149 : (Jvm.Cond.instanceMethod ({ cls := "SafeCodeModel", name := "out", desc := "(I)I" } : Jvm.MethodName)) ∈ lw_all := lw_g (lw_at lw_m13 23 rfl) rfl
theorem q3150 : (Jvm.Cond.selects "SafeCodeModel" ({ cls := "SafeCodeModel", name := "out", desc := "(I)I" } : Jvm.MethodName) ({ cls := "SafeCodeModel", name := "out", desc := "(I)I" } : Jvm.MethodName)) ∈ lw_all := lw_g (lw_at lw_m13 24 rfl) rfl
theorem q3151 : (Jvm.Cond.code ({ cls := "SafeCodeModel", name := "out", desc := "(I)I" } : Jvm.MethodName) prog_17_method_165_code (2 : Nat) (Option.some Jvm.ClassFile.FieldType.int)) ∈ lw_all := lw_g (lw_at lw_m13 25 rfl) rfl
theorem q3153 : (Jvm.Cond.instanceMethod ({ cls := "SafeCodeModel", name := "strays", desc := "()I" } : Jvm.MethodName)) ∈ lw_all := lw_g (lw_at lw_m13 27 rfl) rfl
theorem q3154 : (Jvm.Cond.selects "SafeCodeModel" ({ cls := "SafeCodeModel", name := "strays", desc := "()I" } : Jvm.MethodName) ({ cls := "SafeCodeModel", name := "strays", desc := "()I" } : Jvm.MethodName)) ∈ lw_all := lw_g (lw_at lw_m13 28 rfl) rfl
theorem q3155 : (Jvm.Cond.code ({ cls := "SafeCodeModel", name := "strays", desc := "()I" } : Jvm.MethodName) prog_17_method_166_code (1 : Nat) (Option.some Jvm.ClassFile.FieldType.int)) ∈ lw_all := lw_g (lw_at lw_m13 29 rfl) rfl
theorem in_X15 : ∀ w ∈ wsX150, w ∈ lw_all := lw_in wsX150 [2344, 2346, 2348, 2350, 2352, 2354, 2356, 2358, 2360, 2362, 2364, 2366, 2368, 2370, 2372, 2374, 2376, 2378, 2380, 2382, 2384, 2386, 2388, 2390, 2392, 2394, 2396, 2398, 2400, 2402, 2404, 2406, 2408, 2410, 2412, 2414, 2416, 2418, 2420, 2422, 2424, 2426, 2428, 2430, 2432, 2434, 2436, 2438, 2440, 2442, 2444, 2446, 2448, 2450, 2452, 2454, 2456, 2458, 2460, 2462, 2464, 2466, 2468, 2470] (by decide +kernel) (by decide +kernel)
/-! SafeCodeModel$Program -/
def RX16 : String := "SafeCodeModel$Program"
def TX16 : u_T := fun k => match k with
  | 0 => ("SafeCodeModel$Program", "classes", "I", false)
  | 1 => ("SafeCodeModel$Program", "fields", "I", false)
  | 2 => ("SafeCodeModel$Program", "bodies", "I", false)
  | 3 => ("SafeCodeModel$Program", "codes", "I", false)
  | 4 => ("SafeCodeModel$Program", "news", "I", false)
  | 5 => ("SafeCodeModel$Program", "catches", "I", false)
  | 6 => ("SafeCodeModel$Program", "main", "I", false)
  | 7 => ("SafeCodeModel$Program", "thresholds", "I", false)
  | 8 => ("SafeCodeModel$Program", "above", "[I", true)
  | 9 => ("SafeCodeModel$Program", "objectFields", "[I", true)
  | 10 => ("SafeCodeModel$Program", "fieldClass", "[I", true)
  | 11 => ("SafeCodeModel$Program", "fieldType", "[I", true)
  | 12 => ("SafeCodeModel$Program", "fieldPlace", "[I", true)
  | 13 => ("SafeCodeModel$Program", "bodyClass", "[I", true)
  | 14 => ("SafeCodeModel$Program", "bodyIsMethod", "[Z", true)
  | 15 => ("SafeCodeModel$Program", "parameters", "[I", true)
  | 16 => ("SafeCodeModel$Program", "parameterType", "[I", true)
  | 17 => ("SafeCodeModel$Program", "result", "[I", true)
  | 18 => ("SafeCodeModel$Program", "locals", "[I", true)
  | 19 => ("SafeCodeModel$Program", "first", "[I", true)
  | 20 => ("SafeCodeModel$Program", "end", "[I", true)
  | 21 => ("SafeCodeModel$Program", "meant", "[I", true)
  | 22 => ("SafeCodeModel$Program", "op", "[I", true)
  | 23 => ("SafeCodeModel$Program", "a", "[I", true)
  | 24 => ("SafeCodeModel$Program", "b", "[I", true)
  | 25 => ("SafeCodeModel$Program", "body", "[I", true)
  | 26 => ("SafeCodeModel$Program", "height", "[I", true)
  | 27 => ("SafeCodeModel$Program", "siteType", "[I", true)
  | 28 => ("SafeCodeModel$Program", "catchBody", "[I", true)
  | 29 => ("SafeCodeModel$Program", "catchFrom", "[I", true)
  | 30 => ("SafeCodeModel$Program", "catchTo", "[I", true)
  | 31 => ("SafeCodeModel$Program", "catchAt", "[I", true)
  | 32 => ("SafeCodeModel$Program", "catchClass", "[I", true)
  | 33 => ("SafeCodeModel$Program", "threshold", "[I", true)
  | 34 => ("SafeCodeModel$Program", "reached", "[Z", true)
  | 35 => ("SafeCodeModel$Program", "kind", "[B", true)
  | 36 => ("SafeCodeModel$Program", "low", "[I", true)
  | 37 => ("SafeCodeModel$Program", "high", "[I", true)
  | 38 => ("SafeCodeModel$Program", "sites", "[J", true)
  | 39 => ("SafeCodeModel$Program", "copy", "[B", true)
  | 40 => ("SafeCodeModel$Program", "less", "[I", true)
  | 41 => ("SafeCodeModel$Program", "under", "[I", true)
  | 42 => ("SafeCodeModel$Program", "length", "[I", true)
  | 43 => ("SafeCodeModel$Program", "sized", "[I", true)
  | 44 => ("SafeCodeModel$Program", "raises", "[I", true)
  | 45 => ("SafeCodeModel$Program", "escapes", "[J", true)
  | 46 => ("SafeCodeModel$Program", "valueKind", "[B", true)
  | 47 => ("SafeCodeModel$Program", "valueLow", "[I", true)
  | 48 => ("SafeCodeModel$Program", "valueHigh", "[I", true)
  | 49 => ("SafeCodeModel$Program", "valueSites", "[J", true)
  | 50 => ("SafeCodeModel$Program", "canEnd", "[Z", true)
  | 51 => ("SafeCodeModel$Program", "begun", "[Z", true)
  | _ => ("SafeCodeModel$Program", "throwsSites", "[J", true)
def tyX16 : Nat → FieldType := fun k => match k with
  | 0 => .int
  | 1 => .int
  | 2 => .int
  | 3 => .int
  | 4 => .int
  | 5 => .int
  | 6 => .int
  | 7 => .int
  | 8 => .array .int
  | 9 => .array .int
  | 10 => .array .int
  | 11 => .array .int
  | 12 => .array .int
  | 13 => .array .int
  | 14 => .array .boolean
  | 15 => .array .int
  | 16 => .array .int
  | 17 => .array .int
  | 18 => .array .int
  | 19 => .array .int
  | 20 => .array .int
  | 21 => .array .int
  | 22 => .array .int
  | 23 => .array .int
  | 24 => .array .int
  | 25 => .array .int
  | 26 => .array .int
  | 27 => .array .int
  | 28 => .array .int
  | 29 => .array .int
  | 30 => .array .int
  | 31 => .array .int
  | 32 => .array .int
  | 33 => .array .int
  | 34 => .array .boolean
  | 35 => .array .byte
  | 36 => .array .int
  | 37 => .array .int
  | 38 => .array .long
  | 39 => .array .byte
  | 40 => .array .int
  | 41 => .array .int
  | 42 => .array .int
  | 43 => .array .int
  | 44 => .array .int
  | 45 => .array .long
  | 46 => .array .byte
  | 47 => .array .int
  | 48 => .array .int
  | 49 => .array .long
  | 50 => .array .boolean
  | 51 => .array .boolean
  | _ => .array .long
abbrev wsX160 : List Cond := u_ws RX16 TX16 53
theorem nmX16 : ∀ a, a < 53 → ∀ b, b < 53 → a ≠ b → (TX16 a).2.1 ≠ (TX16 b).2.1 := by decide +kernel
theorem tyX16_ok : ∀ k, k < 53 → parseFieldDescriptor (TX16 k).2.2.1 = some (tyX16 k) := by decide +kernel
abbrev cX16_init : ByteArray := prog_18_method_1_code
def yX16_init : MethodName := ⟨RX16, "<init>", "()V"⟩
theorem q267 : (Jvm.Cond.initialized "SafeCodeModel$Program") ∈ lw_all := lw_g (lw_at lw_m1 21 rfl) rfl
theorem q2070 : (Jvm.Cond.instantiable "SafeCodeModel$Program" (53 : Nat)) ∈ lw_all := lw_g (lw_at lw_m8 144 rfl) rfl
theorem q2072 : (Jvm.Cond.instanceMethod ({ cls := "SafeCodeModel$Program", name := "<init>", desc := "()V" } : Jvm.MethodName)) ∈ lw_all := lw_g (lw_at lw_m8 146 rfl) rfl
theorem q2073 : (Jvm.Cond.code ({ cls := "SafeCodeModel$Program", name := "<init>", desc := "()V" } : Jvm.MethodName) prog_18_method_1_code (1 : Nat) (Option.none : Option Jvm.ClassFile.FieldType)) ∈ lw_all := lw_g (lw_at lw_m8 147 rfl) rfl
theorem q2074 : (Jvm.Cond.methodLink "SafeCodeModel$Program" (3 : Nat) ({ cls := "java/lang/Object", name := "<init>", desc := "()V" } : Jvm.MethodName)) ∈ lw_all := lw_g (lw_at lw_m8 148 rfl) rfl
theorem q2083 : (Jvm.Cond.fieldLink "SafeCodeModel$Program" (9 : Nat) "SafeCodeModel$Program" "above" "[I") ∈ lw_all := lw_g (lw_at lw_m8 157 rfl) rfl
theorem q2085 : (Jvm.Cond.fieldLink "SafeCodeModel$Program" (15 : Nat) "SafeCodeModel$Program" "objectFields" "[I") ∈ lw_all := lw_g (lw_at lw_m8 159 rfl) rfl
theorem q2087 : (Jvm.Cond.fieldLink "SafeCodeModel$Program" (18 : Nat) "SafeCodeModel$Program" "fieldClass" "[I") ∈ lw_all := lw_g (lw_at lw_m8 161 rfl) rfl
theorem q2089 : (Jvm.Cond.fieldLink "SafeCodeModel$Program" (21 : Nat) "SafeCodeModel$Program" "fieldType" "[I") ∈ lw_all := lw_g (lw_at lw_m8 163 rfl) rfl
theorem q2091 : (Jvm.Cond.fieldLink "SafeCodeModel$Program" (24 : Nat) "SafeCodeModel$Program" "fieldPlace" "[I") ∈ lw_all := lw_g (lw_at lw_m8 165 rfl) rfl
theorem q2093 : (Jvm.Cond.fieldLink "SafeCodeModel$Program" (27 : Nat) "SafeCodeModel$Program" "bodyClass" "[I") ∈ lw_all := lw_g (lw_at lw_m8 167 rfl) rfl
theorem q2095 : (Jvm.Cond.fieldLink "SafeCodeModel$Program" (30 : Nat) "SafeCodeModel$Program" "bodyIsMethod" "[Z") ∈ lw_all := lw_g (lw_at lw_m8 169 rfl) rfl
theorem q2097 : (Jvm.Cond.fieldLink "SafeCodeModel$Program" (34 : Nat) "SafeCodeModel$Program" "parameters" "[I") ∈ lw_all := lw_g (lw_at lw_m8 171 rfl) rfl
theorem q2099 : (Jvm.Cond.fieldLink "SafeCodeModel$Program" (37 : Nat) "SafeCodeModel$Program" "parameterType" "[I") ∈ lw_all := lw_g (lw_at lw_m8 173 rfl) rfl
theorem q2101 : (Jvm.Cond.fieldLink "SafeCodeModel$Program" (40 : Nat) "SafeCodeModel$Program" "result" "[I") ∈ lw_all := lw_g (lw_at lw_m8 175 rfl) rfl
theorem q2103 : (Jvm.Cond.fieldLink "SafeCodeModel$Program" (43 : Nat) "SafeCodeModel$Program" "locals" "[I") ∈ lw_all := lw_g (lw_at lw_m8 177 rfl) rfl
theorem q2105 : (Jvm.Cond.fieldLink "SafeCodeModel$Program" (46 : Nat) "SafeCodeModel$Program" "first" "[I") ∈ lw_all := lw_g (lw_at lw_m8 179 rfl) rfl
theorem q2107 : (Jvm.Cond.fieldLink "SafeCodeModel$Program" (49 : Nat) "SafeCodeModel$Program" "end" "[I") ∈ lw_all := lw_g (lw_at lw_m8 181 rfl) rfl
theorem q2109 : (Jvm.Cond.fieldLink "SafeCodeModel$Program" (52 : Nat) "SafeCodeModel$Program" "meant" "[I") ∈ lw_all := lw_g (lw_at lw_m8 183 rfl) rfl
theorem q2111 : (Jvm.Cond.fieldLink "SafeCodeModel$Program" (55 : Nat) "SafeCodeModel$Program" "op" "[I") ∈ lw_all := lw_g (lw_at lw_m8 185 rfl) rfl
theorem q2113 : (Jvm.Cond.fieldLink "SafeCodeModel$Program" (58 : Nat) "SafeCodeModel$Program" "a" "[I") ∈ lw_all := lw_g (lw_at lw_m8 187 rfl) rfl
theorem q2115 : (Jvm.Cond.fieldLink "SafeCodeModel$Program" (61 : Nat) "SafeCodeModel$Program" "b" "[I") ∈ lw_all := lw_g (lw_at lw_m8 189 rfl) rfl
theorem q2117 : (Jvm.Cond.fieldLink "SafeCodeModel$Program" (64 : Nat) "SafeCodeModel$Program" "body" "[I") ∈ lw_all := lw_g (lw_at lw_m8 191 rfl) rfl
theorem q2119 : (Jvm.Cond.fieldLink "SafeCodeModel$Program" (67 : Nat) "SafeCodeModel$Program" "height" "[I") ∈ lw_all := lw_g (lw_at lw_m8 193 rfl) rfl
theorem q2121 : (Jvm.Cond.fieldLink "SafeCodeModel$Program" (70 : Nat) "SafeCodeModel$Program" "siteType" "[I") ∈ lw_all := lw_g (lw_at lw_m8 195 rfl) rfl
theorem q2123 : (Jvm.Cond.fieldLink "SafeCodeModel$Program" (73 : Nat) "SafeCodeModel$Program" "catchBody" "[I") ∈ lw_all := lw_g (lw_at lw_m8 197 rfl) rfl
theorem q2125 : (Jvm.Cond.fieldLink "SafeCodeModel$Program" (76 : Nat) "SafeCodeModel$Program" "catchFrom" "[I") ∈ lw_all := lw_g (lw_at lw_m8 199 rfl) rfl
theorem q2127 : (Jvm.Cond.fieldLink "SafeCodeModel$Program" (79 : Nat) "SafeCodeModel$Program" "catchTo" "[I") ∈ lw_all := lw_g (lw_at lw_m8 201 rfl) rfl
theorem q2129 : (Jvm.Cond.fieldLink "SafeCodeModel$Program" (82 : Nat) "SafeCodeModel$Program" "catchAt" "[I") ∈ lw_all := lw_g (lw_at lw_m8 203 rfl) rfl
theorem q2131 : (Jvm.Cond.fieldLink "SafeCodeModel$Program" (85 : Nat) "SafeCodeModel$Program" "catchClass" "[I") ∈ lw_all := lw_g (lw_at lw_m8 205 rfl) rfl
theorem q2133 : (Jvm.Cond.fieldLink "SafeCodeModel$Program" (88 : Nat) "SafeCodeModel$Program" "threshold" "[I") ∈ lw_all := lw_g (lw_at lw_m8 207 rfl) rfl
theorem q2135 : (Jvm.Cond.fieldLink "SafeCodeModel$Program" (91 : Nat) "SafeCodeModel$Program" "reached" "[Z") ∈ lw_all := lw_g (lw_at lw_m8 209 rfl) rfl
theorem q2137 : (Jvm.Cond.fieldLink "SafeCodeModel$Program" (94 : Nat) "SafeCodeModel$Program" "kind" "[B") ∈ lw_all := lw_g (lw_at lw_m8 211 rfl) rfl
theorem q2139 : (Jvm.Cond.fieldLink "SafeCodeModel$Program" (98 : Nat) "SafeCodeModel$Program" "low" "[I") ∈ lw_all := lw_g (lw_at lw_m8 213 rfl) rfl
theorem q2141 : (Jvm.Cond.fieldLink "SafeCodeModel$Program" (101 : Nat) "SafeCodeModel$Program" "high" "[I") ∈ lw_all := lw_g (lw_at lw_m8 215 rfl) rfl
theorem q2143 : (Jvm.Cond.fieldLink "SafeCodeModel$Program" (104 : Nat) "SafeCodeModel$Program" "sites" "[J") ∈ lw_all := lw_g (lw_at lw_m8 217 rfl) rfl
theorem q2145 : (Jvm.Cond.fieldLink "SafeCodeModel$Program" (108 : Nat) "SafeCodeModel$Program" "copy" "[B") ∈ lw_all := lw_g (lw_at lw_m8 219 rfl) rfl
theorem q2147 : (Jvm.Cond.fieldLink "SafeCodeModel$Program" (111 : Nat) "SafeCodeModel$Program" "less" "[I") ∈ lw_all := lw_g (lw_at lw_m8 221 rfl) rfl
theorem q2149 : (Jvm.Cond.fieldLink "SafeCodeModel$Program" (114 : Nat) "SafeCodeModel$Program" "under" "[I") ∈ lw_all := lw_g (lw_at lw_m8 223 rfl) rfl
theorem q2151 : (Jvm.Cond.fieldLink "SafeCodeModel$Program" (117 : Nat) "SafeCodeModel$Program" "length" "[I") ∈ lw_all := lw_g (lw_at lw_m8 225 rfl) rfl
theorem q2153 : (Jvm.Cond.fieldLink "SafeCodeModel$Program" (120 : Nat) "SafeCodeModel$Program" "sized" "[I") ∈ lw_all := lw_g (lw_at lw_m8 227 rfl) rfl
theorem q2155 : (Jvm.Cond.fieldLink "SafeCodeModel$Program" (123 : Nat) "SafeCodeModel$Program" "raises" "[I") ∈ lw_all := lw_g (lw_at lw_m8 229 rfl) rfl
theorem q2157 : (Jvm.Cond.fieldLink "SafeCodeModel$Program" (126 : Nat) "SafeCodeModel$Program" "escapes" "[J") ∈ lw_all := lw_g (lw_at lw_m8 231 rfl) rfl
theorem q2159 : (Jvm.Cond.fieldLink "SafeCodeModel$Program" (129 : Nat) "SafeCodeModel$Program" "valueKind" "[B") ∈ lw_all := lw_g (lw_at lw_m8 233 rfl) rfl
theorem q2161 : (Jvm.Cond.fieldLink "SafeCodeModel$Program" (132 : Nat) "SafeCodeModel$Program" "valueLow" "[I") ∈ lw_all := lw_g (lw_at lw_m8 235 rfl) rfl
theorem q2163 : (Jvm.Cond.fieldLink "SafeCodeModel$Program" (135 : Nat) "SafeCodeModel$Program" "valueHigh" "[I") ∈ lw_all := lw_g (lw_at lw_m8 237 rfl) rfl
theorem q2165 : (Jvm.Cond.fieldLink "SafeCodeModel$Program" (138 : Nat) "SafeCodeModel$Program" "valueSites" "[J") ∈ lw_all := lw_g (lw_at lw_m8 239 rfl) rfl
theorem q2167 : (Jvm.Cond.fieldLink "SafeCodeModel$Program" (141 : Nat) "SafeCodeModel$Program" "canEnd" "[Z") ∈ lw_all := lw_g (lw_at lw_m9 1 rfl) rfl
theorem q2169 : (Jvm.Cond.fieldLink "SafeCodeModel$Program" (144 : Nat) "SafeCodeModel$Program" "begun" "[Z") ∈ lw_all := lw_g (lw_at lw_m9 3 rfl) rfl
theorem q2171 : (Jvm.Cond.fieldLink "SafeCodeModel$Program" (147 : Nat) "SafeCodeModel$Program" "throwsSites" "[J") ∈ lw_all := lw_g (lw_at lw_m9 5 rfl) rfl
theorem q2173 : (Jvm.Cond.lays "SafeCodeModel$Program" "SafeCodeModel$Program" "classes" "I") ∈ lw_all := lw_g (lw_at lw_m9 7 rfl) rfl
theorem q2174 : (Jvm.Cond.soleField "SafeCodeModel$Program" "classes") ∈ lw_all := lw_g (lw_at lw_m9 8 rfl) rfl
theorem q2175 : (Jvm.Cond.lays "SafeCodeModel$Program" "SafeCodeModel$Program" "fields" "I") ∈ lw_all := lw_g (lw_at lw_m9 9 rfl) rfl
theorem q2176 : (Jvm.Cond.soleField "SafeCodeModel$Program" "fields") ∈ lw_all := lw_g (lw_at lw_m9 10 rfl) rfl
theorem q2177 : (Jvm.Cond.lays "SafeCodeModel$Program" "SafeCodeModel$Program" "bodies" "I") ∈ lw_all := lw_g (lw_at lw_m9 11 rfl) rfl
theorem q2178 : (Jvm.Cond.soleField "SafeCodeModel$Program" "bodies") ∈ lw_all := lw_g (lw_at lw_m9 12 rfl) rfl
theorem q2179 : (Jvm.Cond.lays "SafeCodeModel$Program" "SafeCodeModel$Program" "codes" "I") ∈ lw_all := lw_g (lw_at lw_m9 13 rfl) rfl
theorem q2180 : (Jvm.Cond.soleField "SafeCodeModel$Program" "codes") ∈ lw_all := lw_g (lw_at lw_m9 14 rfl) rfl
theorem q2181 : (Jvm.Cond.lays "SafeCodeModel$Program" "SafeCodeModel$Program" "news" "I") ∈ lw_all := lw_g (lw_at lw_m9 15 rfl) rfl
theorem q2182 : (Jvm.Cond.soleField "SafeCodeModel$Program" "news") ∈ lw_all := lw_g (lw_at lw_m9 16 rfl) rfl
theorem q2183 : (Jvm.Cond.lays "SafeCodeModel$Program" "SafeCodeModel$Program" "catches" "I") ∈ lw_all := lw_g (lw_at lw_m9 17 rfl) rfl
theorem q2184 : (Jvm.Cond.soleField "SafeCodeModel$Program" "catches") ∈ lw_all := lw_g (lw_at lw_m9 18 rfl) rfl
theorem q2185 : (Jvm.Cond.lays "SafeCodeModel$Program" "SafeCodeModel$Program" "main" "I") ∈ lw_all := lw_g (lw_at lw_m9 19 rfl) rfl
theorem q2186 : (Jvm.Cond.soleField "SafeCodeModel$Program" "main") ∈ lw_all := lw_g (lw_at lw_m9 20 rfl) rfl
theorem q2187 : (Jvm.Cond.lays "SafeCodeModel$Program" "SafeCodeModel$Program" "thresholds" "I") ∈ lw_all := lw_g (lw_at lw_m9 21 rfl) rfl
theorem q2188 : (Jvm.Cond.soleField "SafeCodeModel$Program" "thresholds") ∈ lw_all := lw_g (lw_at lw_m9 22 rfl) rfl
theorem q2189 : (Jvm.Cond.laysFinal "SafeCodeModel$Program" "SafeCodeModel$Program" "above" "[I") ∈ lw_all := lw_g (lw_at lw_m9 23 rfl) rfl
theorem q2190 : (Jvm.Cond.soleField "SafeCodeModel$Program" "above") ∈ lw_all := lw_g (lw_at lw_m9 24 rfl) rfl
theorem q2191 : (Jvm.Cond.laysFinal "SafeCodeModel$Program" "SafeCodeModel$Program" "objectFields" "[I") ∈ lw_all := lw_g (lw_at lw_m9 25 rfl) rfl
theorem q2192 : (Jvm.Cond.soleField "SafeCodeModel$Program" "objectFields") ∈ lw_all := lw_g (lw_at lw_m9 26 rfl) rfl
theorem q2193 : (Jvm.Cond.laysFinal "SafeCodeModel$Program" "SafeCodeModel$Program" "fieldClass" "[I") ∈ lw_all := lw_g (lw_at lw_m9 27 rfl) rfl
theorem q2194 : (Jvm.Cond.soleField "SafeCodeModel$Program" "fieldClass") ∈ lw_all := lw_g (lw_at lw_m9 28 rfl) rfl
theorem q2195 : (Jvm.Cond.laysFinal "SafeCodeModel$Program" "SafeCodeModel$Program" "fieldType" "[I") ∈ lw_all := lw_g (lw_at lw_m9 29 rfl) rfl
theorem q2196 : (Jvm.Cond.soleField "SafeCodeModel$Program" "fieldType") ∈ lw_all := lw_g (lw_at lw_m9 30 rfl) rfl
theorem q2197 : (Jvm.Cond.laysFinal "SafeCodeModel$Program" "SafeCodeModel$Program" "fieldPlace" "[I") ∈ lw_all := lw_g (lw_at lw_m9 31 rfl) rfl
theorem q2198 : (Jvm.Cond.soleField "SafeCodeModel$Program" "fieldPlace") ∈ lw_all := lw_g (lw_at lw_m9 32 rfl) rfl
theorem q2199 : (Jvm.Cond.laysFinal "SafeCodeModel$Program" "SafeCodeModel$Program" "bodyClass" "[I") ∈ lw_all := lw_g (lw_at lw_m9 33 rfl) rfl
theorem q2200 : (Jvm.Cond.soleField "SafeCodeModel$Program" "bodyClass") ∈ lw_all := lw_g (lw_at lw_m9 34 rfl) rfl
theorem q2201 : (Jvm.Cond.laysFinal "SafeCodeModel$Program" "SafeCodeModel$Program" "bodyIsMethod" "[Z") ∈ lw_all := lw_g (lw_at lw_m9 35 rfl) rfl
theorem q2202 : (Jvm.Cond.soleField "SafeCodeModel$Program" "bodyIsMethod") ∈ lw_all := lw_g (lw_at lw_m9 36 rfl) rfl
theorem q2203 : (Jvm.Cond.laysFinal "SafeCodeModel$Program" "SafeCodeModel$Program" "parameters" "[I") ∈ lw_all := lw_g (lw_at lw_m9 37 rfl) rfl
theorem q2204 : (Jvm.Cond.soleField "SafeCodeModel$Program" "parameters") ∈ lw_all := lw_g (lw_at lw_m9 38 rfl) rfl
theorem q2205 : (Jvm.Cond.laysFinal "SafeCodeModel$Program" "SafeCodeModel$Program" "parameterType" "[I") ∈ lw_all := lw_g (lw_at lw_m9 39 rfl) rfl
theorem q2206 : (Jvm.Cond.soleField "SafeCodeModel$Program" "parameterType") ∈ lw_all := lw_g (lw_at lw_m9 40 rfl) rfl
theorem q2207 : (Jvm.Cond.laysFinal "SafeCodeModel$Program" "SafeCodeModel$Program" "result" "[I") ∈ lw_all := lw_g (lw_at lw_m9 41 rfl) rfl
theorem q2208 : (Jvm.Cond.soleField "SafeCodeModel$Program" "result") ∈ lw_all := lw_g (lw_at lw_m9 42 rfl) rfl
theorem q2209 : (Jvm.Cond.laysFinal "SafeCodeModel$Program" "SafeCodeModel$Program" "locals" "[I") ∈ lw_all := lw_g (lw_at lw_m9 43 rfl) rfl
theorem q2210 : (Jvm.Cond.soleField "SafeCodeModel$Program" "locals") ∈ lw_all := lw_g (lw_at lw_m9 44 rfl) rfl
theorem q2211 : (Jvm.Cond.laysFinal "SafeCodeModel$Program" "SafeCodeModel$Program" "first" "[I") ∈ lw_all := lw_g (lw_at lw_m9 45 rfl) rfl
theorem q2212 : (Jvm.Cond.soleField "SafeCodeModel$Program" "first") ∈ lw_all := lw_g (lw_at lw_m9 46 rfl) rfl
theorem q2213 : (Jvm.Cond.laysFinal "SafeCodeModel$Program" "SafeCodeModel$Program" "end" "[I") ∈ lw_all := lw_g (lw_at lw_m9 47 rfl) rfl
theorem q2214 : (Jvm.Cond.soleField "SafeCodeModel$Program" "end") ∈ lw_all := lw_g (lw_at lw_m9 48 rfl) rfl
theorem q2215 : (Jvm.Cond.laysFinal "SafeCodeModel$Program" "SafeCodeModel$Program" "meant" "[I") ∈ lw_all := lw_g (lw_at lw_m9 49 rfl) rfl
theorem q2216 : (Jvm.Cond.soleField "SafeCodeModel$Program" "meant") ∈ lw_all := lw_g (lw_at lw_m9 50 rfl) rfl
theorem q2217 : (Jvm.Cond.laysFinal "SafeCodeModel$Program" "SafeCodeModel$Program" "op" "[I") ∈ lw_all := lw_g (lw_at lw_m9 51 rfl) rfl
theorem q2218 : (Jvm.Cond.soleField "SafeCodeModel$Program" "op") ∈ lw_all := lw_g (lw_at lw_m9 52 rfl) rfl
theorem q2219 : (Jvm.Cond.laysFinal "SafeCodeModel$Program" "SafeCodeModel$Program" "a" "[I") ∈ lw_all := lw_g (lw_at lw_m9 53 rfl) rfl
theorem q2220 : (Jvm.Cond.soleField "SafeCodeModel$Program" "a") ∈ lw_all := lw_g (lw_at lw_m9 54 rfl) rfl
theorem q2221 : (Jvm.Cond.laysFinal "SafeCodeModel$Program" "SafeCodeModel$Program" "b" "[I") ∈ lw_all := lw_g (lw_at lw_m9 55 rfl) rfl
theorem q2222 : (Jvm.Cond.soleField "SafeCodeModel$Program" "b") ∈ lw_all := lw_g (lw_at lw_m9 56 rfl) rfl
theorem q2223 : (Jvm.Cond.laysFinal "SafeCodeModel$Program" "SafeCodeModel$Program" "body" "[I") ∈ lw_all := lw_g (lw_at lw_m9 57 rfl) rfl
theorem q2224 : (Jvm.Cond.soleField "SafeCodeModel$Program" "body") ∈ lw_all := lw_g (lw_at lw_m9 58 rfl) rfl
theorem q2225 : (Jvm.Cond.laysFinal "SafeCodeModel$Program" "SafeCodeModel$Program" "height" "[I") ∈ lw_all := lw_g (lw_at lw_m9 59 rfl) rfl
theorem q2226 : (Jvm.Cond.soleField "SafeCodeModel$Program" "height") ∈ lw_all := lw_g (lw_at lw_m9 60 rfl) rfl
theorem q2227 : (Jvm.Cond.laysFinal "SafeCodeModel$Program" "SafeCodeModel$Program" "siteType" "[I") ∈ lw_all := lw_g (lw_at lw_m9 61 rfl) rfl
theorem q2228 : (Jvm.Cond.soleField "SafeCodeModel$Program" "siteType") ∈ lw_all := lw_g (lw_at lw_m9 62 rfl) rfl
theorem q2229 : (Jvm.Cond.laysFinal "SafeCodeModel$Program" "SafeCodeModel$Program" "catchBody" "[I") ∈ lw_all := lw_g (lw_at lw_m9 63 rfl) rfl
theorem q2230 : (Jvm.Cond.soleField "SafeCodeModel$Program" "catchBody") ∈ lw_all := lw_g (lw_at lw_m9 64 rfl) rfl
theorem q2231 : (Jvm.Cond.laysFinal "SafeCodeModel$Program" "SafeCodeModel$Program" "catchFrom" "[I") ∈ lw_all := lw_g (lw_at lw_m9 65 rfl) rfl
theorem q2232 : (Jvm.Cond.soleField "SafeCodeModel$Program" "catchFrom") ∈ lw_all := lw_g (lw_at lw_m9 66 rfl) rfl
theorem q2233 : (Jvm.Cond.laysFinal "SafeCodeModel$Program" "SafeCodeModel$Program" "catchTo" "[I") ∈ lw_all := lw_g (lw_at lw_m9 67 rfl) rfl
theorem q2234 : (Jvm.Cond.soleField "SafeCodeModel$Program" "catchTo") ∈ lw_all := lw_g (lw_at lw_m9 68 rfl) rfl
theorem q2235 : (Jvm.Cond.laysFinal "SafeCodeModel$Program" "SafeCodeModel$Program" "catchAt" "[I") ∈ lw_all := lw_g (lw_at lw_m9 69 rfl) rfl
theorem q2236 : (Jvm.Cond.soleField "SafeCodeModel$Program" "catchAt") ∈ lw_all := lw_g (lw_at lw_m9 70 rfl) rfl
theorem q2237 : (Jvm.Cond.laysFinal "SafeCodeModel$Program" "SafeCodeModel$Program" "catchClass" "[I") ∈ lw_all := lw_g (lw_at lw_m9 71 rfl) rfl
theorem q2238 : (Jvm.Cond.soleField "SafeCodeModel$Program" "catchClass") ∈ lw_all := lw_g (lw_at lw_m9 72 rfl) rfl
theorem q2239 : (Jvm.Cond.laysFinal "SafeCodeModel$Program" "SafeCodeModel$Program" "threshold" "[I") ∈ lw_all := lw_g (lw_at lw_m9 73 rfl) rfl
theorem q2240 : (Jvm.Cond.soleField "SafeCodeModel$Program" "threshold") ∈ lw_all := lw_g (lw_at lw_m9 74 rfl) rfl
theorem q2241 : (Jvm.Cond.laysFinal "SafeCodeModel$Program" "SafeCodeModel$Program" "reached" "[Z") ∈ lw_all := lw_g (lw_at lw_m9 75 rfl) rfl
theorem q2242 : (Jvm.Cond.soleField "SafeCodeModel$Program" "reached") ∈ lw_all := lw_g (lw_at lw_m9 76 rfl) rfl
theorem q2243 : (Jvm.Cond.laysFinal "SafeCodeModel$Program" "SafeCodeModel$Program" "kind" "[B") ∈ lw_all := lw_g (lw_at lw_m9 77 rfl) rfl
theorem q2244 : (Jvm.Cond.soleField "SafeCodeModel$Program" "kind") ∈ lw_all := lw_g (lw_at lw_m9 78 rfl) rfl
theorem q2245 : (Jvm.Cond.laysFinal "SafeCodeModel$Program" "SafeCodeModel$Program" "low" "[I") ∈ lw_all := lw_g (lw_at lw_m9 79 rfl) rfl
theorem q2246 : (Jvm.Cond.soleField "SafeCodeModel$Program" "low") ∈ lw_all := lw_g (lw_at lw_m9 80 rfl) rfl
theorem q2247 : (Jvm.Cond.laysFinal "SafeCodeModel$Program" "SafeCodeModel$Program" "high" "[I") ∈ lw_all := lw_g (lw_at lw_m9 81 rfl) rfl
theorem q2248 : (Jvm.Cond.soleField "SafeCodeModel$Program" "high") ∈ lw_all := lw_g (lw_at lw_m9 82 rfl) rfl
theorem q2249 : (Jvm.Cond.laysFinal "SafeCodeModel$Program" "SafeCodeModel$Program" "sites" "[J") ∈ lw_all := lw_g (lw_at lw_m9 83 rfl) rfl
theorem q2250 : (Jvm.Cond.soleField "SafeCodeModel$Program" "sites") ∈ lw_all := lw_g (lw_at lw_m9 84 rfl) rfl
theorem q2251 : (Jvm.Cond.laysFinal "SafeCodeModel$Program" "SafeCodeModel$Program" "copy" "[B") ∈ lw_all := lw_g (lw_at lw_m9 85 rfl) rfl
theorem q2252 : (Jvm.Cond.soleField "SafeCodeModel$Program" "copy") ∈ lw_all := lw_g (lw_at lw_m9 86 rfl) rfl
theorem q2253 : (Jvm.Cond.laysFinal "SafeCodeModel$Program" "SafeCodeModel$Program" "less" "[I") ∈ lw_all := lw_g (lw_at lw_m9 87 rfl) rfl
theorem q2254 : (Jvm.Cond.soleField "SafeCodeModel$Program" "less") ∈ lw_all := lw_g (lw_at lw_m9 88 rfl) rfl
theorem q2255 : (Jvm.Cond.laysFinal "SafeCodeModel$Program" "SafeCodeModel$Program" "under" "[I") ∈ lw_all := lw_g (lw_at lw_m9 89 rfl) rfl
theorem q2256 : (Jvm.Cond.soleField "SafeCodeModel$Program" "under") ∈ lw_all := lw_g (lw_at lw_m9 90 rfl) rfl
theorem q2257 : (Jvm.Cond.laysFinal "SafeCodeModel$Program" "SafeCodeModel$Program" "length" "[I") ∈ lw_all := lw_g (lw_at lw_m9 91 rfl) rfl
theorem q2258 : (Jvm.Cond.soleField "SafeCodeModel$Program" "length") ∈ lw_all := lw_g (lw_at lw_m9 92 rfl) rfl
theorem q2259 : (Jvm.Cond.laysFinal "SafeCodeModel$Program" "SafeCodeModel$Program" "sized" "[I") ∈ lw_all := lw_g (lw_at lw_m9 93 rfl) rfl
theorem q2260 : (Jvm.Cond.soleField "SafeCodeModel$Program" "sized") ∈ lw_all := lw_g (lw_at lw_m9 94 rfl) rfl
theorem q2261 : (Jvm.Cond.laysFinal "SafeCodeModel$Program" "SafeCodeModel$Program" "raises" "[I") ∈ lw_all := lw_g (lw_at lw_m9 95 rfl) rfl
theorem q2262 : (Jvm.Cond.soleField "SafeCodeModel$Program" "raises") ∈ lw_all := lw_g (lw_at lw_m9 96 rfl) rfl
theorem q2263 : (Jvm.Cond.laysFinal "SafeCodeModel$Program" "SafeCodeModel$Program" "escapes" "[J") ∈ lw_all := lw_g (lw_at lw_m9 97 rfl) rfl
theorem q2264 : (Jvm.Cond.soleField "SafeCodeModel$Program" "escapes") ∈ lw_all := lw_g (lw_at lw_m9 98 rfl) rfl
theorem q2265 : (Jvm.Cond.laysFinal "SafeCodeModel$Program" "SafeCodeModel$Program" "valueKind" "[B") ∈ lw_all := lw_g (lw_at lw_m9 99 rfl) rfl
theorem q2266 : (Jvm.Cond.soleField "SafeCodeModel$Program" "valueKind") ∈ lw_all := lw_g (lw_at lw_m9 100 rfl) rfl
theorem q2267 : (Jvm.Cond.laysFinal "SafeCodeModel$Program" "SafeCodeModel$Program" "valueLow" "[I") ∈ lw_all := lw_g (lw_at lw_m9 101 rfl) rfl
theorem q2268 : (Jvm.Cond.soleField "SafeCodeModel$Program" "valueLow") ∈ lw_all := lw_g (lw_at lw_m9 102 rfl) rfl
theorem q2269 : (Jvm.Cond.laysFinal "SafeCodeModel$Program" "SafeCodeModel$Program" "valueHigh" "[I") ∈ lw_all := lw_g (lw_at lw_m9 103 rfl) rfl
theorem q2270 : (Jvm.Cond.soleField "SafeCodeModel$Program" "valueHigh") ∈ lw_all := lw_g (lw_at lw_m9 104 rfl) rfl
theorem q2271 : (Jvm.Cond.laysFinal "SafeCodeModel$Program" "SafeCodeModel$Program" "valueSites" "[J") ∈ lw_all := lw_g (lw_at lw_m9 105 rfl) rfl
theorem q2272 : (Jvm.Cond.soleField "SafeCodeModel$Program" "valueSites") ∈ lw_all := lw_g (lw_at lw_m9 106 rfl) rfl
theorem q2273 : (Jvm.Cond.laysFinal "SafeCodeModel$Program" "SafeCodeModel$Program" "canEnd" "[Z") ∈ lw_all := lw_g (lw_at lw_m9 107 rfl) rfl
theorem q2274 : (Jvm.Cond.soleField "SafeCodeModel$Program" "canEnd") ∈ lw_all := lw_g (lw_at lw_m9 108 rfl) rfl
theorem q2275 : (Jvm.Cond.laysFinal "SafeCodeModel$Program" "SafeCodeModel$Program" "begun" "[Z") ∈ lw_all := lw_g (lw_at lw_m9 109 rfl) rfl
theorem q2276 : (Jvm.Cond.soleField "SafeCodeModel$Program" "begun") ∈ lw_all := lw_g (lw_at lw_m9 110 rfl) rfl
theorem q2277 : (Jvm.Cond.laysFinal "SafeCodeModel$Program" "SafeCodeModel$Program" "throwsSites" "[J") ∈ lw_all := lw_g (lw_at lw_m9 111 rfl) rfl
theorem q2278 : (Jvm.Cond.soleField "SafeCodeModel$Program" "throwsSites") ∈ lw_all := lw_g (lw_at lw_m9 112 rfl) rfl
theorem q2279 : (Jvm.Cond.superclass "SafeCodeModel$Program" "java/lang/Object") ∈ lw_all := lw_g (lw_at lw_m9 113 rfl) rfl
theorem in_X16 : ∀ w ∈ wsX160, w ∈ lw_all := lw_in wsX160 [2173, 2175, 2177, 2179, 2181, 2183, 2185, 2187, 2189, 2191, 2193, 2195, 2197, 2199, 2201, 2203, 2205, 2207, 2209, 2211, 2213, 2215, 2217, 2219, 2221, 2223, 2225, 2227, 2229, 2231, 2233, 2235, 2237, 2239, 2241, 2243, 2245, 2247, 2249, 2251, 2253, 2255, 2257, 2259, 2261, 2263, 2265, 2267, 2269, 2271, 2273, 2275, 2277] (by decide +kernel) (by decide +kernel)
/-! java/lang/Throwable -/
def RJ0 : String := "java/lang/Throwable"
def TJ0 : u_T := fun k => match k with
  | 0 => ("java/lang/Throwable", "cause", "Ljava/lang/Throwable;", false)
  | 1 => ("java/lang/Throwable", "stackTrace", "[Ljava/lang/StackTraceElement;", false)
  | 2 => ("java/lang/Throwable", "suppressedExceptions", "Ljava/util/List;", false)
  | 3 => ("java/lang/Throwable", "detailMessage", "Ljava/lang/String;", false)
  | _ => ("java/lang/Throwable", "backtrace", "Ljava/lang/Object;", false)
def tyJ0 : Nat → FieldType := fun k => match k with
  | 0 => .object "java/lang/Throwable"
  | 1 => .array (.object "java/lang/StackTraceElement")
  | 2 => .object "java/util/List"
  | 3 => .object "java/lang/String"
  | _ => .object "java/lang/Object"
abbrev wsJ00 : List Cond := u_ws RJ0 TJ0 5
theorem nmJ0 : ∀ a, a < 5 → ∀ b, b < 5 → a ≠ b → (TJ0 a).2.1 ≠ (TJ0 b).2.1 := by decide +kernel
theorem tyJ0_ok : ∀ k, k < 5 → parseFieldDescriptor (TJ0 k).2.2.1 = some (tyJ0 k) := by decide +kernel
abbrev cJ0_init : ByteArray := prog_28_method_1_code
def yJ0_init : MethodName := ⟨RJ0, "<init>", "()V"⟩
theorem q249 : (Jvm.Cond.initialized "java/lang/Throwable") ∈ lw_all := lw_g (lw_at lw_m1 3 rfl) rfl
theorem q296 : (Jvm.Cond.declares ({ cls := "java/lang/Throwable", name := "<init>", desc := "()V" } : Jvm.MethodName)) ∈ lw_tbl := lw_at lw_m1 50 rfl
theorem q297 : (Jvm.Cond.declares ({ cls := "java/lang/Throwable", name := "<init>", desc := "(Ljava/lang/String;)V" } : Jvm.MethodName)) ∈ lw_tbl := lw_at lw_m1 51 rfl
theorem q301 : (Jvm.Cond.lays "java/lang/Throwable" "java/lang/Throwable" "cause" "Ljava/lang/Throwable;") ∈ lw_all := lw_g (lw_at lw_m1 55 rfl) rfl
theorem q303 : (Jvm.Cond.lays "java/lang/Throwable" "java/lang/Throwable" "stackTrace" "[Ljava/lang/StackTraceElement;") ∈ lw_all := lw_g (lw_at lw_m1 57 rfl) rfl
theorem q305 : (Jvm.Cond.lays "java/lang/Throwable" "java/lang/Throwable" "suppressedExceptions" "Ljava/util/List;") ∈ lw_all := lw_g (lw_at lw_m1 59 rfl) rfl
theorem q307 : (Jvm.Cond.lays "java/lang/Throwable" "java/lang/Throwable" "detailMessage" "Ljava/lang/String;") ∈ lw_all := lw_g (lw_at lw_m1 61 rfl) rfl
theorem q309 : (Jvm.Cond.lays "java/lang/Throwable" "java/lang/Throwable" "backtrace" "Ljava/lang/Object;") ∈ lw_all := lw_g (lw_at lw_m1 63 rfl) rfl
theorem q310 : (Jvm.Cond.fieldLink "java/lang/Throwable" (198 : Nat) "java/lang/Throwable" "backtrace" "Ljava/lang/Object;") ∈ lw_all := lw_g (lw_at lw_m1 64 rfl) rfl
theorem q311 : (Jvm.Cond.superclass "java/lang/Throwable" "java/lang/Object") ∈ lw_all := lw_g (lw_at lw_m1 65 rfl) rfl
theorem q312 : (Jvm.Cond.instanceMethod ({ cls := "java/lang/Throwable", name := "<init>", desc := "()V" } : Jvm.MethodName)) ∈ lw_all := lw_g (lw_at lw_m1 66 rfl) rfl
theorem q313 : (Jvm.Cond.code ({ cls := "java/lang/Throwable", name := "<init>", desc := "()V" } : Jvm.MethodName) prog_28_method_1_code (1 : Nat) (Option.none : Option Jvm.ClassFile.FieldType)) ∈ lw_all := lw_g (lw_at lw_m1 67 rfl) rfl
theorem q314 : (Jvm.Cond.methodLink "java/lang/Throwable" (1 : Nat) ({ cls := "java/lang/Object", name := "<init>", desc := "()V" } : Jvm.MethodName)) ∈ lw_all := lw_g (lw_at lw_m1 68 rfl) rfl
theorem q315 : (Jvm.Cond.fieldLink "java/lang/Throwable" (13 : Nat) "java/lang/Throwable" "UNASSIGNED_STACK" "[Ljava/lang/StackTraceElement;") ∈ lw_all := lw_g (lw_at lw_m1 69 rfl) rfl
theorem q316 : (Jvm.Cond.laysStatic "java/lang/Throwable" "UNASSIGNED_STACK" "[Ljava/lang/StackTraceElement;") ∈ lw_tbl := lw_at lw_m1 70 rfl
theorem q317 : (Jvm.Cond.fieldLink "java/lang/Throwable" (20 : Nat) "java/lang/Throwable" "SUPPRESSED_SENTINEL" "Ljava/util/List;") ∈ lw_all := lw_g (lw_at lw_m1 71 rfl) rfl
theorem q318 : (Jvm.Cond.laysStatic "java/lang/Throwable" "SUPPRESSED_SENTINEL" "Ljava/util/List;") ∈ lw_tbl := lw_at lw_m1 72 rfl
theorem q319 : (Jvm.Cond.methodLink "java/lang/Throwable" (27 : Nat) ({ cls := "java/lang/Throwable", name := "fillInStackTrace", desc := "()Ljava/lang/Throwable;" } : Jvm.MethodName)) ∈ lw_all := lw_g (lw_at lw_m1 73 rfl) rfl
theorem q320 : (Jvm.Cond.instanceMethod ({ cls := "java/lang/Throwable", name := "fillInStackTrace", desc := "()Ljava/lang/Throwable;" } : Jvm.MethodName)) ∈ lw_all := lw_g (lw_at lw_m1 74 rfl) rfl
theorem q321 : (Jvm.Cond.sameMethod "java/lang/Throwable" "java/lang/Throwable" "fillInStackTrace" "()Ljava/lang/Throwable;") ∈ lw_all := lw_g (lw_at lw_m1 75 rfl) rfl
theorem q322 : (Jvm.Cond.codeSync ({ cls := "java/lang/Throwable", name := "fillInStackTrace", desc := "()Ljava/lang/Throwable;" } : Jvm.MethodName) prog_28_method_18_code (1 : Nat) (Option.some (Jvm.ClassFile.FieldType.object "java/lang/Throwable"))) ∈ lw_all := lw_g (lw_at lw_m1 76 rfl) rfl
theorem q323 : (Jvm.Cond.methodLink "java/lang/Throwable" (202 : Nat) ({ cls := "java/lang/Throwable", name := "fillInStackTrace", desc := "(I)Ljava/lang/Throwable;" } : Jvm.MethodName)) ∈ lw_all := lw_g (lw_at lw_m1 77 rfl) rfl
theorem q324 : (Jvm.Cond.privateMethod ({ cls := "java/lang/Throwable", name := "fillInStackTrace", desc := "(I)Ljava/lang/Throwable;" } : Jvm.MethodName)) ∈ lw_tbl := lw_at lw_m1 78 rfl
theorem q325 : (Jvm.Cond.instanceMethod ({ cls := "java/lang/Throwable", name := "fillInStackTrace", desc := "(I)Ljava/lang/Throwable;" } : Jvm.MethodName)) ∈ lw_all := lw_g (lw_at lw_m1 79 rfl) rfl
theorem q326 : (Jvm.Cond.instantiable "java/lang/Throwable" (6 : Nat)) ∈ lw_all := lw_g (lw_at lw_m1 80 rfl) rfl
theorem q327 : (Jvm.Cond.native ({ cls := "java/lang/Throwable", name := "fillInStackTrace", desc := "(I)Ljava/lang/Throwable;" } : Jvm.MethodName)) ∈ lw_all := lw_g (lw_at lw_m1 81 rfl) rfl
theorem q338 : (Jvm.Cond.fieldLink "java/lang/Throwable" (198 : Nat) "java/lang/Throwable" "backtrace" "Ljava/lang/Object;") ∈ lw_all := lw_g (lw_at lw_m1 92 rfl) rfl
theorem q339 : (Jvm.Cond.fieldLink "java/lang/Throwable" (7 : Nat) "java/lang/Throwable" "cause" "Ljava/lang/Throwable;") ∈ lw_all := lw_g (lw_at lw_m1 93 rfl) rfl
theorem q340 : (Jvm.Cond.fieldLink "java/lang/Throwable" (17 : Nat) "java/lang/Throwable" "stackTrace" "[Ljava/lang/StackTraceElement;") ∈ lw_all := lw_g (lw_at lw_m1 94 rfl) rfl
theorem q341 : (Jvm.Cond.fieldLink "java/lang/Throwable" (24 : Nat) "java/lang/Throwable" "suppressedExceptions" "Ljava/util/List;") ∈ lw_all := lw_g (lw_at lw_m1 95 rfl) rfl
theorem q342 : (Jvm.Cond.soleField "java/lang/Throwable" "backtrace") ∈ lw_all := lw_g (lw_at lw_m1 96 rfl) rfl
theorem q343 : (Jvm.Cond.soleField "java/lang/Throwable" "detailMessage") ∈ lw_all := lw_g (lw_at lw_m1 97 rfl) rfl
theorem q344 : (Jvm.Cond.soleField "java/lang/Throwable" "cause") ∈ lw_all := lw_g (lw_at lw_m1 98 rfl) rfl
theorem q345 : (Jvm.Cond.soleField "java/lang/Throwable" "stackTrace") ∈ lw_all := lw_g (lw_at lw_m1 99 rfl) rfl
theorem q347 : (Jvm.Cond.soleField "java/lang/Throwable" "depth") ∈ lw_all := lw_g (lw_at lw_m1 101 rfl) rfl
theorem q348 : (Jvm.Cond.soleField "java/lang/Throwable" "suppressedExceptions") ∈ lw_all := lw_g (lw_at lw_m1 102 rfl) rfl
theorem q3156 : (Jvm.Cond.sameMethod "java/lang/Throwable" "java/lang/Throwable" "fillInStackTrace" "(I)Ljava/lang/Throwable;") ∈ lw_all := lw_g (lw_at lw_m13 30 rfl) rfl
theorem in_J0 : ∀ w ∈ wsJ00, w ∈ lw_all := lw_in wsJ00 [301, 303, 305, 307, 309] (by decide +kernel) (by decide +kernel)
/-! java/lang/Exception -/
def RJ1 : String := "java/lang/Exception"
abbrev cJ1_init : ByteArray := prog_20_method_1_code
def yJ1_init : MethodName := ⟨RJ1, "<init>", "()V"⟩
theorem q250 : (Jvm.Cond.initialized "java/lang/Exception") ∈ lw_all := lw_g (lw_at lw_m1 4 rfl) rfl
theorem q294 : (Jvm.Cond.declares ({ cls := "java/lang/Exception", name := "<init>", desc := "()V" } : Jvm.MethodName)) ∈ lw_tbl := lw_at lw_m1 48 rfl
theorem q295 : (Jvm.Cond.declares ({ cls := "java/lang/Exception", name := "<init>", desc := "(Ljava/lang/String;)V" } : Jvm.MethodName)) ∈ lw_tbl := lw_at lw_m1 49 rfl
theorem q335 : (Jvm.Cond.instanceMethod ({ cls := "java/lang/Exception", name := "<init>", desc := "()V" } : Jvm.MethodName)) ∈ lw_all := lw_g (lw_at lw_m1 89 rfl) rfl
theorem q336 : (Jvm.Cond.code ({ cls := "java/lang/Exception", name := "<init>", desc := "()V" } : Jvm.MethodName) prog_20_method_1_code (1 : Nat) (Option.none : Option Jvm.ClassFile.FieldType)) ∈ lw_all := lw_g (lw_at lw_m1 90 rfl) rfl
theorem q337 : (Jvm.Cond.methodLink "java/lang/Exception" (1 : Nat) ({ cls := "java/lang/Throwable", name := "<init>", desc := "()V" } : Jvm.MethodName)) ∈ lw_all := lw_g (lw_at lw_m1 91 rfl) rfl
/-! java/lang/RuntimeException -/
def RJ2 : String := "java/lang/RuntimeException"
abbrev cJ2_init : ByteArray := prog_23_method_1_code
def yJ2_init : MethodName := ⟨RJ2, "<init>", "()V"⟩
theorem q251 : (Jvm.Cond.initialized "java/lang/RuntimeException") ∈ lw_all := lw_g (lw_at lw_m1 5 rfl) rfl
theorem q292 : (Jvm.Cond.declares ({ cls := "java/lang/RuntimeException", name := "<init>", desc := "()V" } : Jvm.MethodName)) ∈ lw_tbl := lw_at lw_m1 46 rfl
theorem q293 : (Jvm.Cond.declares ({ cls := "java/lang/RuntimeException", name := "<init>", desc := "(Ljava/lang/String;)V" } : Jvm.MethodName)) ∈ lw_tbl := lw_at lw_m1 47 rfl
theorem q332 : (Jvm.Cond.instanceMethod ({ cls := "java/lang/RuntimeException", name := "<init>", desc := "()V" } : Jvm.MethodName)) ∈ lw_all := lw_g (lw_at lw_m1 86 rfl) rfl
theorem q333 : (Jvm.Cond.code ({ cls := "java/lang/RuntimeException", name := "<init>", desc := "()V" } : Jvm.MethodName) prog_23_method_1_code (1 : Nat) (Option.none : Option Jvm.ClassFile.FieldType)) ∈ lw_all := lw_g (lw_at lw_m1 87 rfl) rfl
theorem q334 : (Jvm.Cond.methodLink "java/lang/RuntimeException" (1 : Nat) ({ cls := "java/lang/Exception", name := "<init>", desc := "()V" } : Jvm.MethodName)) ∈ lw_all := lw_g (lw_at lw_m1 88 rfl) rfl
/-! java/lang/IllegalStateException -/
def RJ3 : String := "java/lang/IllegalStateException"
def TJ3 : u_T := fun k => match k with
  | 0 => ("java/lang/Throwable", "cause", "Ljava/lang/Throwable;", false)
  | 1 => ("java/lang/Throwable", "stackTrace", "[Ljava/lang/StackTraceElement;", false)
  | 2 => ("java/lang/Throwable", "suppressedExceptions", "Ljava/util/List;", false)
  | 3 => ("java/lang/Throwable", "detailMessage", "Ljava/lang/String;", false)
  | 4 => ("java/lang/Throwable", "backtrace", "Ljava/lang/Object;", false)
  | _ => ("java/lang/Throwable", "depth", "I", false)
def tyJ3 : Nat → FieldType := fun k => match k with
  | 0 => .object "java/lang/Throwable"
  | 1 => .array (.object "java/lang/StackTraceElement")
  | 2 => .object "java/util/List"
  | 3 => .object "java/lang/String"
  | 4 => .object "java/lang/Object"
  | _ => .int
abbrev wsJ30 : List Cond := u_ws RJ3 TJ3 6
theorem nmJ3 : ∀ a, a < 6 → ∀ b, b < 6 → a ≠ b → (TJ3 a).2.1 ≠ (TJ3 b).2.1 := by decide +kernel
theorem tyJ3_ok : ∀ k, k < 6 → parseFieldDescriptor (TJ3 k).2.2.1 = some (tyJ3 k) := by decide +kernel
abbrev cJ3_init : ByteArray := prog_21_method_1_code
def yJ3_init : MethodName := ⟨RJ3, "<init>", "()V"⟩
theorem q252 : (Jvm.Cond.initialized "java/lang/IllegalStateException") ∈ lw_all := lw_g (lw_at lw_m1 6 rfl) rfl
theorem q290 : (Jvm.Cond.instantiable "java/lang/IllegalStateException" (6 : Nat)) ∈ lw_all := lw_g (lw_at lw_m1 44 rfl) rfl
theorem q291 : (Jvm.Cond.castable "java/lang/IllegalStateException" "java/lang/IllegalStateException") ∈ lw_tbl := lw_at lw_m1 45 rfl
theorem q298 : (Jvm.Cond.selects "java/lang/IllegalStateException" ({ cls := "java/lang/Throwable", name := "fillInStackTrace", desc := "(I)Ljava/lang/Throwable;" } : Jvm.MethodName) ({ cls := "java/lang/Throwable", name := "fillInStackTrace", desc := "(I)Ljava/lang/Throwable;" } : Jvm.MethodName)) ∈ lw_all := lw_g (lw_at lw_m1 52 rfl) rfl
theorem q299 : (Jvm.Cond.selects "java/lang/IllegalStateException" ({ cls := "java/lang/Throwable", name := "fillInStackTrace", desc := "()Ljava/lang/Throwable;" } : Jvm.MethodName) ({ cls := "java/lang/Throwable", name := "fillInStackTrace", desc := "()Ljava/lang/Throwable;" } : Jvm.MethodName)) ∈ lw_all := lw_g (lw_at lw_m1 53 rfl) rfl
theorem q300 : (Jvm.Cond.lays "java/lang/IllegalStateException" "java/lang/Throwable" "cause" "Ljava/lang/Throwable;") ∈ lw_all := lw_g (lw_at lw_m1 54 rfl) rfl
theorem q302 : (Jvm.Cond.lays "java/lang/IllegalStateException" "java/lang/Throwable" "stackTrace" "[Ljava/lang/StackTraceElement;") ∈ lw_all := lw_g (lw_at lw_m1 56 rfl) rfl
theorem q304 : (Jvm.Cond.lays "java/lang/IllegalStateException" "java/lang/Throwable" "suppressedExceptions" "Ljava/util/List;") ∈ lw_all := lw_g (lw_at lw_m1 58 rfl) rfl
theorem q306 : (Jvm.Cond.lays "java/lang/IllegalStateException" "java/lang/Throwable" "detailMessage" "Ljava/lang/String;") ∈ lw_all := lw_g (lw_at lw_m1 60 rfl) rfl
theorem q308 : (Jvm.Cond.lays "java/lang/IllegalStateException" "java/lang/Throwable" "backtrace" "Ljava/lang/Object;") ∈ lw_all := lw_g (lw_at lw_m1 62 rfl) rfl
theorem q329 : (Jvm.Cond.instanceMethod ({ cls := "java/lang/IllegalStateException", name := "<init>", desc := "()V" } : Jvm.MethodName)) ∈ lw_all := lw_g (lw_at lw_m1 83 rfl) rfl
theorem q330 : (Jvm.Cond.code ({ cls := "java/lang/IllegalStateException", name := "<init>", desc := "()V" } : Jvm.MethodName) prog_21_method_1_code (1 : Nat) (Option.none : Option Jvm.ClassFile.FieldType)) ∈ lw_all := lw_g (lw_at lw_m1 84 rfl) rfl
theorem q331 : (Jvm.Cond.methodLink "java/lang/IllegalStateException" (1 : Nat) ({ cls := "java/lang/RuntimeException", name := "<init>", desc := "()V" } : Jvm.MethodName)) ∈ lw_all := lw_g (lw_at lw_m1 85 rfl) rfl
theorem q346 : (Jvm.Cond.lays "java/lang/IllegalStateException" "java/lang/Throwable" "depth" "I") ∈ lw_all := lw_g (lw_at lw_m1 100 rfl) rfl
theorem q349 : (Jvm.Cond.superclass "java/lang/IllegalStateException" "java/lang/RuntimeException") ∈ lw_all := lw_g (lw_at lw_m1 103 rfl) rfl
theorem in_J3 : ∀ w ∈ wsJ30, w ∈ lw_all := lw_in wsJ30 [300, 302, 304, 306, 308, 346] (by decide +kernel) (by decide +kernel)
/-! java/util/Arrays -/
def RJ4 : String := "java/util/Arrays"
abbrev cJ4_copyOf : ByteArray := prog_29_method_123_code
def yJ4_copyOf : MethodName := ⟨RJ4, "copyOf", "([II)[I"⟩
theorem q268 : (Jvm.Cond.initialized "java/util/Arrays") ∈ lw_all := lw_g (lw_at lw_m1 22 rfl) rfl
theorem q1110 : (Jvm.Cond.static ({ cls := "java/util/Arrays", name := "copyOf", desc := "([II)[I" } : Jvm.MethodName)) ∈ lw_all := lw_g (lw_at lw_m4 144 rfl) rfl
theorem q1111 : (Jvm.Cond.code ({ cls := "java/util/Arrays", name := "copyOf", desc := "([II)[I" } : Jvm.MethodName) prog_29_method_123_code (3 : Nat) (Option.some (Jvm.ClassFile.FieldType.array Jvm.ClassFile.FieldType.int))) ∈ lw_all := lw_g (lw_at lw_m4 145 rfl) rfl
theorem q1112 : (Jvm.Cond.methodLink "java/util/Arrays" (316 : Nat) ({ cls := "[I", name := "clone", desc := "()Ljava/lang/Object;" } : Jvm.MethodName)) ∈ lw_all := lw_g (lw_at lw_m4 146 rfl) rfl
theorem q1118 : (Jvm.Cond.classLink "java/util/Arrays" (317 : Nat) "[I") ∈ lw_all := lw_g (lw_at lw_m4 152 rfl) rfl
theorem q1119 : (Jvm.Cond.methodLink "java/util/Arrays" (304 : Nat) ({ cls := "java/lang/Math", name := "min", desc := "(II)I" } : Jvm.MethodName)) ∈ lw_all := lw_g (lw_at lw_m4 153 rfl) rfl
theorem q1122 : (Jvm.Cond.methodLink "java/util/Arrays" (150 : Nat) ({ cls := "java/lang/System", name := "arraycopy", desc := "(Ljava/lang/Object;ILjava/lang/Object;II)V" } : Jvm.MethodName)) ∈ lw_all := lw_g (lw_at lw_m4 156 rfl) rfl
/-! java/lang/Math -/
def RJ5 : String := "java/lang/Math"
abbrev cJ5_min : ByteArray := prog_22_method_69_code
def yJ5_min : MethodName := ⟨RJ5, "min", "(II)I"⟩
abbrev cJ5_max : ByteArray := prog_22_method_65_code
def yJ5_max : MethodName := ⟨RJ5, "max", "(II)I"⟩
abbrev cJ5_max_2 : ByteArray := prog_22_method_66_code
def yJ5_max_2 : MethodName := ⟨RJ5, "max", "(JJ)J"⟩
abbrev cJ5_min_2 : ByteArray := prog_22_method_70_code
def yJ5_min_2 : MethodName := ⟨RJ5, "min", "(JJ)J"⟩
abbrev cJ5_abs : ByteArray := prog_22_method_61_code
def yJ5_abs : MethodName := ⟨RJ5, "abs", "(J)J"⟩
theorem q269 : (Jvm.Cond.initialized "java/lang/Math") ∈ lw_all := lw_g (lw_at lw_m1 23 rfl) rfl
theorem q1120 : (Jvm.Cond.static ({ cls := "java/lang/Math", name := "min", desc := "(II)I" } : Jvm.MethodName)) ∈ lw_all := lw_g (lw_at lw_m4 154 rfl) rfl
theorem q1121 : (Jvm.Cond.code ({ cls := "java/lang/Math", name := "min", desc := "(II)I" } : Jvm.MethodName) prog_22_method_69_code (2 : Nat) (Option.some Jvm.ClassFile.FieldType.int)) ∈ lw_all := lw_g (lw_at lw_m4 155 rfl) rfl
theorem q1610 : (Jvm.Cond.static ({ cls := "java/lang/Math", name := "max", desc := "(II)I" } : Jvm.MethodName)) ∈ lw_all := lw_g (lw_at lw_m6 164 rfl) rfl
theorem q1611 : (Jvm.Cond.code ({ cls := "java/lang/Math", name := "max", desc := "(II)I" } : Jvm.MethodName) prog_22_method_65_code (2 : Nat) (Option.some Jvm.ClassFile.FieldType.int)) ∈ lw_all := lw_g (lw_at lw_m6 165 rfl) rfl
theorem q1661 : (Jvm.Cond.static ({ cls := "java/lang/Math", name := "max", desc := "(JJ)J" } : Jvm.MethodName)) ∈ lw_all := lw_g (lw_at lw_m6 215 rfl) rfl
theorem q1662 : (Jvm.Cond.code ({ cls := "java/lang/Math", name := "max", desc := "(JJ)J" } : Jvm.MethodName) prog_22_method_66_code (4 : Nat) (Option.some Jvm.ClassFile.FieldType.long)) ∈ lw_all := lw_g (lw_at lw_m6 216 rfl) rfl
theorem q1664 : (Jvm.Cond.static ({ cls := "java/lang/Math", name := "min", desc := "(JJ)J" } : Jvm.MethodName)) ∈ lw_all := lw_g (lw_at lw_m6 218 rfl) rfl
theorem q1665 : (Jvm.Cond.code ({ cls := "java/lang/Math", name := "min", desc := "(JJ)J" } : Jvm.MethodName) prog_22_method_70_code (4 : Nat) (Option.some Jvm.ClassFile.FieldType.long)) ∈ lw_all := lw_g (lw_at lw_m6 219 rfl) rfl
theorem q1741 : (Jvm.Cond.static ({ cls := "java/lang/Math", name := "abs", desc := "(J)J" } : Jvm.MethodName)) ∈ lw_all := lw_g (lw_at lw_m7 55 rfl) rfl
theorem q1742 : (Jvm.Cond.code ({ cls := "java/lang/Math", name := "abs", desc := "(J)J" } : Jvm.MethodName) prog_22_method_61_code (2 : Nat) (Option.some Jvm.ClassFile.FieldType.long)) ∈ lw_all := lw_g (lw_at lw_m7 56 rfl) rfl
/-! java/lang/String -/
def RJ6 : String := "java/lang/String"
abbrev cJ6_length : ByteArray := prog_24_method_54_code
def yJ6_length : MethodName := ⟨RJ6, "length", "()I"⟩
abbrev cJ6_coder : ByteArray := prog_24_method_152_code
def yJ6_coder : MethodName := ⟨RJ6, "coder", "()B"⟩
abbrev cJ6_charAt : ByteArray := prog_24_method_56_code
def yJ6_charAt : MethodName := ⟨RJ6, "charAt", "(I)C"⟩
abbrev cJ6_isLatin1 : ByteArray := prog_24_method_154_code
def yJ6_isLatin1 : MethodName := ⟨RJ6, "isLatin1", "()Z"⟩
abbrev cJ6_checkIndex : ByteArray := prog_24_method_155_code
def yJ6_checkIndex : MethodName := ⟨RJ6, "checkIndex", "(II)V"⟩
theorem q271 : (Jvm.Cond.initialized "java/lang/String") ∈ lw_all := lw_g (lw_at lw_m1 25 rfl) rfl
theorem q1148 : (Jvm.Cond.instanceMethod ({ cls := "java/lang/String", name := "length", desc := "()I" } : Jvm.MethodName)) ∈ lw_all := lw_g (lw_at lw_m4 182 rfl) rfl
theorem q1149 : (Jvm.Cond.selects "java/lang/String" ({ cls := "java/lang/String", name := "length", desc := "()I" } : Jvm.MethodName) ({ cls := "java/lang/String", name := "length", desc := "()I" } : Jvm.MethodName)) ∈ lw_all := lw_g (lw_at lw_m4 183 rfl) rfl
theorem q1150 : (Jvm.Cond.code ({ cls := "java/lang/String", name := "length", desc := "()I" } : Jvm.MethodName) prog_24_method_54_code (1 : Nat) (Option.some Jvm.ClassFile.FieldType.int)) ∈ lw_all := lw_g (lw_at lw_m4 184 rfl) rfl
theorem q1151 : (Jvm.Cond.methodLink "java/lang/String" (335 : Nat) ({ cls := "java/lang/String", name := "coder", desc := "()B" } : Jvm.MethodName)) ∈ lw_all := lw_g (lw_at lw_m4 185 rfl) rfl
theorem q1152 : (Jvm.Cond.instanceMethod ({ cls := "java/lang/String", name := "coder", desc := "()B" } : Jvm.MethodName)) ∈ lw_all := lw_g (lw_at lw_m4 186 rfl) rfl
theorem q1153 : (Jvm.Cond.selects "java/lang/String" ({ cls := "java/lang/String", name := "coder", desc := "()B" } : Jvm.MethodName) ({ cls := "java/lang/String", name := "coder", desc := "()B" } : Jvm.MethodName)) ∈ lw_all := lw_g (lw_at lw_m4 187 rfl) rfl
theorem q1154 : (Jvm.Cond.code ({ cls := "java/lang/String", name := "coder", desc := "()B" } : Jvm.MethodName) prog_24_method_152_code (1 : Nat) (Option.some Jvm.ClassFile.FieldType.byte)) ∈ lw_all := lw_g (lw_at lw_m4 188 rfl) rfl
theorem q1155 : (Jvm.Cond.fieldLink "java/lang/String" (38 : Nat) "java/lang/String" "COMPACT_STRINGS" "Z") ∈ lw_all := lw_g (lw_at lw_m4 189 rfl) rfl
theorem q1156 : (Jvm.Cond.laysStatic "java/lang/String" "COMPACT_STRINGS" "Z") ∈ lw_tbl := lw_at lw_m4 190 rfl
theorem q1162 : (Jvm.Cond.instanceMethod ({ cls := "java/lang/String", name := "charAt", desc := "(I)C" } : Jvm.MethodName)) ∈ lw_all := lw_g (lw_at lw_m4 196 rfl) rfl
theorem q1163 : (Jvm.Cond.selects "java/lang/String" ({ cls := "java/lang/String", name := "charAt", desc := "(I)C" } : Jvm.MethodName) ({ cls := "java/lang/String", name := "charAt", desc := "(I)C" } : Jvm.MethodName)) ∈ lw_all := lw_g (lw_at lw_m4 197 rfl) rfl
theorem q1164 : (Jvm.Cond.code ({ cls := "java/lang/String", name := "charAt", desc := "(I)C" } : Jvm.MethodName) prog_24_method_56_code (2 : Nat) (Option.some Jvm.ClassFile.FieldType.char)) ∈ lw_all := lw_g (lw_at lw_m4 198 rfl) rfl
theorem q1165 : (Jvm.Cond.methodLink "java/lang/String" (492 : Nat) ({ cls := "java/lang/String", name := "isLatin1", desc := "()Z" } : Jvm.MethodName)) ∈ lw_all := lw_g (lw_at lw_m4 199 rfl) rfl
theorem q1166 : (Jvm.Cond.instanceMethod ({ cls := "java/lang/String", name := "isLatin1", desc := "()Z" } : Jvm.MethodName)) ∈ lw_all := lw_g (lw_at lw_m4 200 rfl) rfl
theorem q1167 : (Jvm.Cond.selects "java/lang/String" ({ cls := "java/lang/String", name := "isLatin1", desc := "()Z" } : Jvm.MethodName) ({ cls := "java/lang/String", name := "isLatin1", desc := "()Z" } : Jvm.MethodName)) ∈ lw_all := lw_g (lw_at lw_m4 201 rfl) rfl
theorem q1168 : (Jvm.Cond.code ({ cls := "java/lang/String", name := "isLatin1", desc := "()Z" } : Jvm.MethodName) prog_24_method_154_code (1 : Nat) (Option.some Jvm.ClassFile.FieldType.boolean)) ∈ lw_all := lw_g (lw_at lw_m4 202 rfl) rfl
theorem q1169 : (Jvm.Cond.methodLink "java/lang/String" (495 : Nat) ({ cls := "java/lang/StringLatin1", name := "charAt", desc := "([BI)C" } : Jvm.MethodName)) ∈ lw_all := lw_g (lw_at lw_m4 203 rfl) rfl
theorem q1173 : (Jvm.Cond.static ({ cls := "java/lang/String", name := "checkIndex", desc := "(II)V" } : Jvm.MethodName)) ∈ lw_all := lw_g (lw_at lw_m4 207 rfl) rfl
theorem q1174 : (Jvm.Cond.code ({ cls := "java/lang/String", name := "checkIndex", desc := "(II)V" } : Jvm.MethodName) prog_24_method_155_code (2 : Nat) (Option.none : Option Jvm.ClassFile.FieldType)) ∈ lw_all := lw_g (lw_at lw_m4 208 rfl) rfl
theorem q1175 : (Jvm.Cond.fieldLink "java/lang/String" (1053 : Nat) "jdk/internal/util/Preconditions" "SIOOBE_FORMATTER" "Ljava/util/function/BiFunction;") ∈ lw_all := lw_g (lw_at lw_m4 209 rfl) rfl
theorem q1177 : (Jvm.Cond.methodLink "java/lang/String" (1059 : Nat) ({ cls := "jdk/internal/util/Preconditions", name := "checkIndex", desc := "(IILjava/util/function/BiFunction;)I" } : Jvm.MethodName)) ∈ lw_all := lw_g (lw_at lw_m4 211 rfl) rfl
theorem q1180 : (Jvm.Cond.methodLink "java/lang/String" (498 : Nat) ({ cls := "java/lang/StringUTF16", name := "charAt", desc := "([BI)C" } : Jvm.MethodName)) ∈ lw_all := lw_g (lw_at lw_m4 214 rfl) rfl
theorem q3160 : (Jvm.Cond.fieldLink "java/lang/String" (9 : Nat) "java/lang/String" "value" "[B") ∈ lw_all := lw_g (lw_at lw_m13 34 rfl) rfl
theorem q3161 : (Jvm.Cond.fieldLink "java/lang/String" (15 : Nat) "java/lang/String" "coder" "B") ∈ lw_all := lw_g (lw_at lw_m13 35 rfl) rfl
/-! java/lang/StringLatin1 -/
def RJ7 : String := "java/lang/StringLatin1"
abbrev cJ7_charAt : ByteArray := prog_25_method_2_code
def yJ7_charAt : MethodName := ⟨RJ7, "charAt", "([BI)C"⟩
theorem q272 : (Jvm.Cond.initialized "java/lang/StringLatin1") ∈ lw_all := lw_g (lw_at lw_m1 26 rfl) rfl
theorem q1170 : (Jvm.Cond.static ({ cls := "java/lang/StringLatin1", name := "charAt", desc := "([BI)C" } : Jvm.MethodName)) ∈ lw_all := lw_g (lw_at lw_m4 204 rfl) rfl
theorem q1171 : (Jvm.Cond.code ({ cls := "java/lang/StringLatin1", name := "charAt", desc := "([BI)C" } : Jvm.MethodName) prog_25_method_2_code (2 : Nat) (Option.some Jvm.ClassFile.FieldType.char)) ∈ lw_all := lw_g (lw_at lw_m4 205 rfl) rfl
theorem q1172 : (Jvm.Cond.methodLink "java/lang/StringLatin1" (9 : Nat) ({ cls := "java/lang/String", name := "checkIndex", desc := "(II)V" } : Jvm.MethodName)) ∈ lw_all := lw_g (lw_at lw_m4 206 rfl) rfl
/-! jdk/internal/util/Preconditions -/
def RJ8 : String := "jdk/internal/util/Preconditions"
abbrev cJ8_checkIndex : ByteArray := prog_30_method_11_code
def yJ8_checkIndex : MethodName := ⟨RJ8, "checkIndex", "(IILjava/util/function/BiFunction;)I"⟩
theorem q273 : (Jvm.Cond.initialized "jdk/internal/util/Preconditions") ∈ lw_all := lw_g (lw_at lw_m1 27 rfl) rfl
theorem q1176 : (Jvm.Cond.laysStatic "jdk/internal/util/Preconditions" "SIOOBE_FORMATTER" "Ljava/util/function/BiFunction;") ∈ lw_tbl := lw_at lw_m4 210 rfl
theorem q1178 : (Jvm.Cond.static ({ cls := "jdk/internal/util/Preconditions", name := "checkIndex", desc := "(IILjava/util/function/BiFunction;)I" } : Jvm.MethodName)) ∈ lw_all := lw_g (lw_at lw_m4 212 rfl) rfl
theorem q1179 : (Jvm.Cond.code ({ cls := "jdk/internal/util/Preconditions", name := "checkIndex", desc := "(IILjava/util/function/BiFunction;)I" } : Jvm.MethodName) prog_30_method_11_code (3 : Nat) (Option.some Jvm.ClassFile.FieldType.int)) ∈ lw_all := lw_g (lw_at lw_m4 213 rfl) rfl
/-! java/lang/StringUTF16 -/
def RJ9 : String := "java/lang/StringUTF16"
abbrev cJ9_charAt : ByteArray := prog_26_method_83_code
def yJ9_charAt : MethodName := ⟨RJ9, "charAt", "([BI)C"⟩
abbrev cJ9_checkIndex : ByteArray := prog_26_method_91_code
def yJ9_checkIndex : MethodName := ⟨RJ9, "checkIndex", "(I[B)V"⟩
abbrev cJ9_length : ByteArray := prog_26_method_6_code
def yJ9_length : MethodName := ⟨RJ9, "length", "([B)I"⟩
abbrev cJ9_getChar : ByteArray := prog_26_method_5_code
def yJ9_getChar : MethodName := ⟨RJ9, "getChar", "([BI)C"⟩
theorem q274 : (Jvm.Cond.initialized "java/lang/StringUTF16") ∈ lw_all := lw_g (lw_at lw_m1 28 rfl) rfl
theorem q1181 : (Jvm.Cond.static ({ cls := "java/lang/StringUTF16", name := "charAt", desc := "([BI)C" } : Jvm.MethodName)) ∈ lw_all := lw_g (lw_at lw_m4 215 rfl) rfl
theorem q1182 : (Jvm.Cond.code ({ cls := "java/lang/StringUTF16", name := "charAt", desc := "([BI)C" } : Jvm.MethodName) prog_26_method_83_code (2 : Nat) (Option.some Jvm.ClassFile.FieldType.char)) ∈ lw_all := lw_g (lw_at lw_m4 216 rfl) rfl
theorem q1183 : (Jvm.Cond.methodLink "java/lang/StringUTF16" (67 : Nat) ({ cls := "java/lang/StringUTF16", name := "checkIndex", desc := "(I[B)V" } : Jvm.MethodName)) ∈ lw_all := lw_g (lw_at lw_m4 217 rfl) rfl
theorem q1184 : (Jvm.Cond.static ({ cls := "java/lang/StringUTF16", name := "checkIndex", desc := "(I[B)V" } : Jvm.MethodName)) ∈ lw_all := lw_g (lw_at lw_m4 218 rfl) rfl
theorem q1185 : (Jvm.Cond.code ({ cls := "java/lang/StringUTF16", name := "checkIndex", desc := "(I[B)V" } : Jvm.MethodName) prog_26_method_91_code (2 : Nat) (Option.none : Option Jvm.ClassFile.FieldType)) ∈ lw_all := lw_g (lw_at lw_m4 219 rfl) rfl
theorem q1186 : (Jvm.Cond.methodLink "java/lang/StringUTF16" (48 : Nat) ({ cls := "java/lang/StringUTF16", name := "length", desc := "([B)I" } : Jvm.MethodName)) ∈ lw_all := lw_g (lw_at lw_m4 220 rfl) rfl
theorem q1187 : (Jvm.Cond.static ({ cls := "java/lang/StringUTF16", name := "length", desc := "([B)I" } : Jvm.MethodName)) ∈ lw_all := lw_g (lw_at lw_m4 221 rfl) rfl
theorem q1188 : (Jvm.Cond.code ({ cls := "java/lang/StringUTF16", name := "length", desc := "([B)I" } : Jvm.MethodName) prog_26_method_6_code (1 : Nat) (Option.some Jvm.ClassFile.FieldType.int)) ∈ lw_all := lw_g (lw_at lw_m4 222 rfl) rfl
theorem q1189 : (Jvm.Cond.methodLink "java/lang/StringUTF16" (414 : Nat) ({ cls := "java/lang/String", name := "checkIndex", desc := "(II)V" } : Jvm.MethodName)) ∈ lw_all := lw_g (lw_at lw_m4 223 rfl) rfl
theorem q1190 : (Jvm.Cond.methodLink "java/lang/StringUTF16" (71 : Nat) ({ cls := "java/lang/StringUTF16", name := "getChar", desc := "([BI)C" } : Jvm.MethodName)) ∈ lw_all := lw_g (lw_at lw_m4 224 rfl) rfl
theorem q1191 : (Jvm.Cond.static ({ cls := "java/lang/StringUTF16", name := "getChar", desc := "([BI)C" } : Jvm.MethodName)) ∈ lw_all := lw_g (lw_at lw_m4 225 rfl) rfl
theorem q1192 : (Jvm.Cond.code ({ cls := "java/lang/StringUTF16", name := "getChar", desc := "([BI)C" } : Jvm.MethodName) prog_26_method_5_code (2 : Nat) (Option.some Jvm.ClassFile.FieldType.char)) ∈ lw_all := lw_g (lw_at lw_m4 226 rfl) rfl
theorem q1193 : (Jvm.Cond.fieldLink "java/lang/StringUTF16" (44 : Nat) "java/lang/StringUTF16" "$assertionsDisabled" "Z") ∈ lw_all := lw_g (lw_at lw_m4 227 rfl) rfl
theorem q1194 : (Jvm.Cond.laysStatic "java/lang/StringUTF16" "$assertionsDisabled" "Z") ∈ lw_tbl := lw_at lw_m4 228 rfl
theorem q1195 : (Jvm.Cond.fieldLink "java/lang/StringUTF16" (59 : Nat) "java/lang/StringUTF16" "HI_BYTE_SHIFT" "I") ∈ lw_all := lw_g (lw_at lw_m4 229 rfl) rfl
theorem q1196 : (Jvm.Cond.laysStatic "java/lang/StringUTF16" "HI_BYTE_SHIFT" "I") ∈ lw_tbl := lw_at lw_m4 230 rfl
theorem q1197 : (Jvm.Cond.fieldLink "java/lang/StringUTF16" (63 : Nat) "java/lang/StringUTF16" "LO_BYTE_SHIFT" "I") ∈ lw_all := lw_g (lw_at lw_m4 231 rfl) rfl
theorem q1198 : (Jvm.Cond.laysStatic "java/lang/StringUTF16" "LO_BYTE_SHIFT" "I") ∈ lw_tbl := lw_at lw_m4 232 rfl
/-! java/lang/Object -/
def RJ10 : String := "java/lang/Object"
abbrev cJ10_init : ByteArray := object_method_1_code
def yJ10_init : MethodName := ⟨RJ10, "<init>", "()V"⟩
theorem q281 : (Jvm.Cond.instanceMethod ({ cls := "java/lang/Object", name := "<init>", desc := "()V" } : Jvm.MethodName)) ∈ lw_all := lw_g (lw_at lw_m1 35 rfl) rfl
theorem q282 : (Jvm.Cond.code ({ cls := "java/lang/Object", name := "<init>", desc := "()V" } : Jvm.MethodName) object_method_1_code (1 : Nat) (Option.none : Option Jvm.ClassFile.FieldType)) ∈ lw_all := lw_g (lw_at lw_m1 36 rfl) rfl
theorem q1114 : (Jvm.Cond.native ({ cls := "java/lang/Object", name := "clone", desc := "()Ljava/lang/Object;" } : Jvm.MethodName)) ∈ lw_all := lw_g (lw_at lw_m4 148 rfl) rfl
theorem q1115 : (Jvm.Cond.instanceMethod ({ cls := "java/lang/Object", name := "clone", desc := "()Ljava/lang/Object;" } : Jvm.MethodName)) ∈ lw_all := lw_g (lw_at lw_m4 149 rfl) rfl
abbrev cL_law : ByteArray := code
theorem q246 : (Jvm.Cond.initialized "SafeCodeLaw") ∈ lw_all := lw_g (lw_at lw_m1 0 rfl) rfl
theorem q275 : (Jvm.Cond.classLink "SafeCodeLaw" (7 : Nat) "SafeCode") ∈ lw_all := lw_g (lw_at lw_m1 29 rfl) rfl
theorem q277 : (Jvm.Cond.methodLink "SafeCodeLaw" (9 : Nat) ({ cls := "SafeCode", name := "<init>", desc := "()V" } : Jvm.MethodName)) ∈ lw_all := lw_g (lw_at lw_m1 31 rfl) rfl
theorem q1061 : (Jvm.Cond.methodLink "SafeCodeLaw" (13 : Nat) ({ cls := "SafeCode", name := "feed", desc := "(IIIII)I" } : Jvm.MethodName)) ∈ lw_all := lw_g (lw_at lw_m4 95 rfl) rfl
theorem q1070 : (Jvm.Cond.methodLink "SafeCodeLaw" (18 : Nat) ({ cls := "SafeCode", name := "end", desc := "(I)Z" } : Jvm.MethodName)) ∈ lw_all := lw_g (lw_at lw_m4 104 rfl) rfl
theorem q1074 : (Jvm.Cond.methodLink "SafeCodeLaw" (23 : Nat) ({ cls := "SafeCode", name := "load", desc := "()I" } : Jvm.MethodName)) ∈ lw_all := lw_g (lw_at lw_m4 108 rfl) rfl
theorem q1875 : (Jvm.Cond.methodLink "SafeCodeLaw" (28 : Nat) ({ cls := "SafeCode", name := "faultAt", desc := "()I" } : Jvm.MethodName)) ∈ lw_all := lw_g (lw_at lw_m7 189 rfl) rfl
theorem q1879 : (Jvm.Cond.methodLink "SafeCodeLaw" (32 : Nat) ({ cls := "SafeCode", name := "size", desc := "(I)I" } : Jvm.MethodName)) ∈ lw_all := lw_g (lw_at lw_m7 193 rfl) rfl
theorem q1883 : (Jvm.Cond.methodLink "SafeCodeLaw" (37 : Nat) ({ cls := "SafeCode", name := "errors", desc := "(I)I" } : Jvm.MethodName)) ∈ lw_all := lw_g (lw_at lw_m7 197 rfl) rfl
theorem q1895 : (Jvm.Cond.methodLink "SafeCodeLaw" (41 : Nat) ({ cls := "SafeCode", name := "escapes", desc := "(I)J" } : Jvm.MethodName)) ∈ lw_all := lw_g (lw_at lw_m7 209 rfl) rfl
theorem q1899 : (Jvm.Cond.methodLink "SafeCodeLaw" (46 : Nat) ({ cls := "SafeCode", name := "ends", desc := "()J" } : Jvm.MethodName)) ∈ lw_all := lw_g (lw_at lw_m7 213 rfl) rfl
theorem q1903 : (Jvm.Cond.methodLink "SafeCodeLaw" (51 : Nat) ({ cls := "SafeCode", name := "kind", desc := "(II)I" } : Jvm.MethodName)) ∈ lw_all := lw_g (lw_at lw_m7 217 rfl) rfl
theorem q1911 : (Jvm.Cond.methodLink "SafeCodeLaw" (56 : Nat) ({ cls := "SafeCode", name := "low", desc := "(II)I" } : Jvm.MethodName)) ∈ lw_all := lw_g (lw_at lw_m7 225 rfl) rfl
theorem q1916 : (Jvm.Cond.methodLink "SafeCodeLaw" (60 : Nat) ({ cls := "SafeCode", name := "high", desc := "(II)I" } : Jvm.MethodName)) ∈ lw_all := lw_g (lw_at lw_m7 230 rfl) rfl
theorem q1920 : (Jvm.Cond.methodLink "SafeCodeLaw" (64 : Nat) ({ cls := "SafeCode", name := "sites", desc := "(II)J" } : Jvm.MethodName)) ∈ lw_all := lw_g (lw_at lw_m7 234 rfl) rfl
theorem q1924 : (Jvm.Cond.methodLink "SafeCodeLaw" (69 : Nat) ({ cls := "SafeCode", name := "fact", desc := "(III)I" } : Jvm.MethodName)) ∈ lw_all := lw_g (lw_at lw_m7 238 rfl) rfl
theorem q1928 : (Jvm.Cond.methodLink "SafeCodeLaw" (74 : Nat) ({ cls := "SafeCode", name := "lengths", desc := "(II)I" } : Jvm.MethodName)) ∈ lw_all := lw_g (lw_at lw_m8 2 rfl) rfl
theorem q1932 : (Jvm.Cond.methodLink "SafeCodeLaw" (78 : Nat) ({ cls := "SafeCode", name := "input", desc := "(I)Z" } : Jvm.MethodName)) ∈ lw_all := lw_g (lw_at lw_m8 6 rfl) rfl
theorem q1936 : (Jvm.Cond.methodLink "SafeCodeLaw" (82 : Nat) ({ cls := "SafeCode", name := "run", desc := "(I)I" } : Jvm.MethodName)) ∈ lw_all := lw_g (lw_at lw_m8 10 rfl) rfl
theorem q2038 : (Jvm.Cond.methodLink "SafeCodeLaw" (86 : Nat) ({ cls := "SafeCode", name := "steps", desc := "()I" } : Jvm.MethodName)) ∈ lw_all := lw_g (lw_at lw_m8 112 rfl) rfl
theorem q2042 : (Jvm.Cond.methodLink "SafeCodeLaw" (90 : Nat) ({ cls := "SafeCode", name := "place", desc := "()I" } : Jvm.MethodName)) ∈ lw_all := lw_g (lw_at lw_m8 116 rfl) rfl
theorem q2046 : (Jvm.Cond.methodLink "SafeCodeLaw" (94 : Nat) ({ cls := "SafeCode", name := "thrown", desc := "()I" } : Jvm.MethodName)) ∈ lw_all := lw_g (lw_at lw_m8 120 rfl) rfl
theorem q2050 : (Jvm.Cond.methodLink "SafeCodeLaw" (98 : Nat) ({ cls := "SafeCode", name := "written", desc := "()I" } : Jvm.MethodName)) ∈ lw_all := lw_g (lw_at lw_m8 124 rfl) rfl
theorem q2054 : (Jvm.Cond.methodLink "SafeCodeLaw" (102 : Nat) ({ cls := "SafeCode", name := "out", desc := "(I)I" } : Jvm.MethodName)) ∈ lw_all := lw_g (lw_at lw_m8 128 rfl) rfl
theorem q2059 : (Jvm.Cond.methodLink "SafeCodeLaw" (106 : Nat) ({ cls := "SafeCode", name := "strays", desc := "()I" } : Jvm.MethodName)) ∈ lw_all := lw_g (lw_at lw_m8 133 rfl) rfl
theorem q2063 : (Jvm.Cond.classLink "SafeCodeLaw" (10 : Nat) "SafeCodeModel") ∈ lw_all := lw_g (lw_at lw_m8 137 rfl) rfl
theorem q2065 : (Jvm.Cond.methodLink "SafeCodeLaw" (12 : Nat) ({ cls := "SafeCodeModel", name := "<init>", desc := "()V" } : Jvm.MethodName)) ∈ lw_all := lw_g (lw_at lw_m8 139 rfl) rfl
theorem q2473 : (Jvm.Cond.methodLink "SafeCodeLaw" (17 : Nat) ({ cls := "SafeCodeModel", name := "feed", desc := "(IIIII)I" } : Jvm.MethodName)) ∈ lw_all := lw_g (lw_at lw_m10 67 rfl) rfl
theorem q2482 : (Jvm.Cond.methodLink "SafeCodeLaw" (22 : Nat) ({ cls := "SafeCodeModel", name := "end", desc := "(I)Z" } : Jvm.MethodName)) ∈ lw_all := lw_g (lw_at lw_m10 76 rfl) rfl
theorem q2486 : (Jvm.Cond.methodLink "SafeCodeLaw" (27 : Nat) ({ cls := "SafeCodeModel", name := "load", desc := "()I" } : Jvm.MethodName)) ∈ lw_all := lw_g (lw_at lw_m10 80 rfl) rfl
theorem q2980 : (Jvm.Cond.methodLink "SafeCodeLaw" (31 : Nat) ({ cls := "SafeCodeModel", name := "faultAt", desc := "()I" } : Jvm.MethodName)) ∈ lw_all := lw_g (lw_at lw_m12 94 rfl) rfl
theorem q2984 : (Jvm.Cond.methodLink "SafeCodeLaw" (36 : Nat) ({ cls := "SafeCodeModel", name := "size", desc := "(I)I" } : Jvm.MethodName)) ∈ lw_all := lw_g (lw_at lw_m12 98 rfl) rfl
theorem q2988 : (Jvm.Cond.methodLink "SafeCodeLaw" (40 : Nat) ({ cls := "SafeCodeModel", name := "errors", desc := "(I)I" } : Jvm.MethodName)) ∈ lw_all := lw_g (lw_at lw_m12 102 rfl) rfl
theorem q2996 : (Jvm.Cond.methodLink "SafeCodeLaw" (45 : Nat) ({ cls := "SafeCodeModel", name := "escapes", desc := "(I)J" } : Jvm.MethodName)) ∈ lw_all := lw_g (lw_at lw_m12 110 rfl) rfl
theorem q3000 : (Jvm.Cond.methodLink "SafeCodeLaw" (50 : Nat) ({ cls := "SafeCodeModel", name := "ends", desc := "()J" } : Jvm.MethodName)) ∈ lw_all := lw_g (lw_at lw_m12 114 rfl) rfl
theorem q3004 : (Jvm.Cond.methodLink "SafeCodeLaw" (55 : Nat) ({ cls := "SafeCodeModel", name := "kind", desc := "(II)I" } : Jvm.MethodName)) ∈ lw_all := lw_g (lw_at lw_m12 118 rfl) rfl
theorem q3012 : (Jvm.Cond.methodLink "SafeCodeLaw" (59 : Nat) ({ cls := "SafeCodeModel", name := "low", desc := "(II)I" } : Jvm.MethodName)) ∈ lw_all := lw_g (lw_at lw_m12 126 rfl) rfl
theorem q3017 : (Jvm.Cond.methodLink "SafeCodeLaw" (63 : Nat) ({ cls := "SafeCodeModel", name := "high", desc := "(II)I" } : Jvm.MethodName)) ∈ lw_all := lw_g (lw_at lw_m12 131 rfl) rfl
theorem q3021 : (Jvm.Cond.methodLink "SafeCodeLaw" (68 : Nat) ({ cls := "SafeCodeModel", name := "sites", desc := "(II)J" } : Jvm.MethodName)) ∈ lw_all := lw_g (lw_at lw_m12 135 rfl) rfl
theorem q3025 : (Jvm.Cond.methodLink "SafeCodeLaw" (73 : Nat) ({ cls := "SafeCodeModel", name := "fact", desc := "(III)I" } : Jvm.MethodName)) ∈ lw_all := lw_g (lw_at lw_m12 139 rfl) rfl
theorem q3029 : (Jvm.Cond.methodLink "SafeCodeLaw" (77 : Nat) ({ cls := "SafeCodeModel", name := "lengths", desc := "(II)I" } : Jvm.MethodName)) ∈ lw_all := lw_g (lw_at lw_m12 143 rfl) rfl
theorem q3033 : (Jvm.Cond.methodLink "SafeCodeLaw" (81 : Nat) ({ cls := "SafeCodeModel", name := "input", desc := "(I)Z" } : Jvm.MethodName)) ∈ lw_all := lw_g (lw_at lw_m12 147 rfl) rfl
theorem q3037 : (Jvm.Cond.methodLink "SafeCodeLaw" (85 : Nat) ({ cls := "SafeCodeModel", name := "run", desc := "(I)I" } : Jvm.MethodName)) ∈ lw_all := lw_g (lw_at lw_m12 151 rfl) rfl
theorem q3132 : (Jvm.Cond.methodLink "SafeCodeLaw" (89 : Nat) ({ cls := "SafeCodeModel", name := "steps", desc := "()I" } : Jvm.MethodName)) ∈ lw_all := lw_g (lw_at lw_m13 6 rfl) rfl
theorem q3136 : (Jvm.Cond.methodLink "SafeCodeLaw" (93 : Nat) ({ cls := "SafeCodeModel", name := "place", desc := "()I" } : Jvm.MethodName)) ∈ lw_all := lw_g (lw_at lw_m13 10 rfl) rfl
theorem q3140 : (Jvm.Cond.methodLink "SafeCodeLaw" (97 : Nat) ({ cls := "SafeCodeModel", name := "thrown", desc := "()I" } : Jvm.MethodName)) ∈ lw_all := lw_g (lw_at lw_m13 14 rfl) rfl
theorem q3144 : (Jvm.Cond.methodLink "SafeCodeLaw" (101 : Nat) ({ cls := "SafeCodeModel", name := "written", desc := "()I" } : Jvm.MethodName)) ∈ lw_all := lw_g (lw_at lw_m13 18 rfl) rfl
theorem q3148 : (Jvm.Cond.methodLink "SafeCodeLaw" (105 : Nat) ({ cls := "SafeCodeModel", name := "out", desc := "(I)I" } : Jvm.MethodName)) ∈ lw_all := lw_g (lw_at lw_m13 22 rfl) rfl
theorem q3152 : (Jvm.Cond.methodLink "SafeCodeLaw" (109 : Nat) ({ cls := "SafeCodeModel", name := "strays", desc := "()I" } : Jvm.MethodName)) ∈ lw_all := lw_g (lw_at lw_m13 26 rfl) rfl
theorem q1113 : (Jvm.Cond.sameMethod "[I" "java/lang/Object" "clone" "()Ljava/lang/Object;") ∈ lw_all := lw_g (lw_at lw_m4 147 rfl) rfl
theorem q1116 : (Jvm.Cond.selects "[I" ({ cls := "[I", name := "clone", desc := "()Ljava/lang/Object;" } : Jvm.MethodName) ({ cls := "java/lang/Object", name := "clone", desc := "()Ljava/lang/Object;" } : Jvm.MethodName)) ∈ lw_all := lw_g (lw_at lw_m4 150 rfl) rfl
theorem q1117 : (Jvm.Cond.castable "[I" "java/lang/Cloneable") ∈ lw_tbl := lw_at lw_m4 151 rfl
theorem q270 : (Jvm.Cond.initialized "java/lang/System") ∈ lw_all := lw_g (lw_at lw_m1 24 rfl) rfl
theorem q1123 : (Jvm.Cond.static ({ cls := "java/lang/System", name := "arraycopy", desc := "(Ljava/lang/Object;ILjava/lang/Object;II)V" } : Jvm.MethodName)) ∈ lw_all := lw_g (lw_at lw_m4 157 rfl) rfl
theorem q1124 : (Jvm.Cond.native ({ cls := "java/lang/System", name := "arraycopy", desc := "(Ljava/lang/Object;ILjava/lang/Object;II)V" } : Jvm.MethodName)) ∈ lw_all := lw_g (lw_at lw_m4 158 rfl) rfl
theorem q386 : (Jvm.Cond.arrayClass Jvm.ClassFile.FieldType.int) ∈ lw_all := lw_g (lw_at lw_m1 140 rfl) rfl
theorem q527 : (Jvm.Cond.arrayClass Jvm.ClassFile.FieldType.boolean) ∈ lw_all := lw_g (lw_at lw_m2 41 rfl) rfl
theorem q632 : (Jvm.Cond.arrayClass Jvm.ClassFile.FieldType.long) ∈ lw_all := lw_g (lw_at lw_m2 146 rfl) rfl
theorem q1060 : (Jvm.Cond.arrayClass Jvm.ClassFile.FieldType.byte) ∈ lw_all := lw_g (lw_at lw_m4 94 rfl) rfl
