set_option maxRecDepth 100000
/-! LoopLane -/
def RX0 : String := "LoopLane"
def TX0 : u_T := fun k => match k with
  | 0 => ("LoopLane", "refusals", "[LLoopLane$Refusal;", true)
  | 1 => ("LoopLane", "refused", "[I", true)
  | 2 => ("LoopLane", "latest", "Ljava/lang/RuntimeException;", false)
  | 3 => ("LoopLane", "lane", "LLoopLane$Lane;", true)
  | 4 => ("LoopLane", "acts", "[LLoopLane$Act;", true)
  | 5 => ("LoopLane", "many", "I", false)
  | 6 => ("LoopLane", "puts", "[LLoopLane$Put;", true)
  | 7 => ("LoopLane", "sums", "[LLoopLane$Sum;", true)
  | 8 => ("LoopLane", "products", "[LLoopLane$Times;", true)
  | 9 => ("LoopLane", "overs", "[LLoopLane$Over;", true)
  | 10 => ("LoopLane", "fetches", "[LLoopLane$Fetch;", true)
  | 11 => ("LoopLane", "stores", "[LLoopLane$Store;", true)
  | 12 => ("LoopLane", "picks", "[LLoopLane$Pick;", true)
  | 13 => ("LoopLane", "units", "[I", true)
  | 14 => ("LoopLane", "toldA", "[I", true)
  | 15 => ("LoopLane", "toldB", "[I", true)
  | 16 => ("LoopLane", "toldTicks", "[I", true)
  | 17 => ("LoopLane", "toldTurns", "[I", true)
  | 18 => ("LoopLane", "told", "I", false)
  | 19 => ("LoopLane", "edgeA", "[I", true)
  | 20 => ("LoopLane", "edgeB", "[I", true)
  | 21 => ("LoopLane", "edgeTicks", "[I", true)
  | 22 => ("LoopLane", "edgeTurns", "[I", true)
  | 23 => ("LoopLane", "edges", "I", false)
  | 24 => ("LoopLane", "ofBody", "I", false)
  | 25 => ("LoopLane", "isLaid", "Z", false)
  | 26 => ("LoopLane", "beat", "I", false)
  | 27 => ("LoopLane", "ticks", "[I", true)
  | 28 => ("LoopLane", "stages", "[I", true)
  | 29 => ("LoopLane", "forged", "[I", true)
  | 30 => ("LoopLane", "tryBeat", "I", false)
  | 31 => ("LoopLane", "tryTicks", "[I", true)
  | 32 => ("LoopLane", "tryStages", "[I", true)
  | 33 => ("LoopLane", "full", "[I", true)
  | 34 => ("LoopLane", "trials", "I", false)
  | 35 => ("LoopLane", "isSpent", "Z", false)
  | 36 => ("LoopLane", "way", "[I", true)
  | 37 => ("LoopLane", "result", "LLoopLane$Result;", false)
  | 38 => ("LoopLane", "other", "LLoopLane$Result;", false)
  | 39 => ("LoopLane", "third", "LLoopLane$Result;", true)
  | 40 => ("LoopLane", "end", "[J", true)
  | 41 => ("LoopLane", "places", "[J", true)
  | 42 => ("LoopLane", "name", "[I", true)
  | 43 => ("LoopLane", "beginOf", "[I", true)
  | 44 => ("LoopLane", "kept", "[J", true)
  | 45 => ("LoopLane", "compared", "[J", true)
  | _ => ("LoopLane", "wrongs", "[I", true)
def tyX0 : Nat → FieldType := fun k => match k with
  | 0 => .array (.object "LoopLane$Refusal")
  | 1 => .array .int
  | 2 => .object "java/lang/RuntimeException"
  | 3 => .object "LoopLane$Lane"
  | 4 => .array (.object "LoopLane$Act")
  | 5 => .int
  | 6 => .array (.object "LoopLane$Put")
  | 7 => .array (.object "LoopLane$Sum")
  | 8 => .array (.object "LoopLane$Times")
  | 9 => .array (.object "LoopLane$Over")
  | 10 => .array (.object "LoopLane$Fetch")
  | 11 => .array (.object "LoopLane$Store")
  | 12 => .array (.object "LoopLane$Pick")
  | 13 => .array .int
  | 14 => .array .int
  | 15 => .array .int
  | 16 => .array .int
  | 17 => .array .int
  | 18 => .int
  | 19 => .array .int
  | 20 => .array .int
  | 21 => .array .int
  | 22 => .array .int
  | 23 => .int
  | 24 => .int
  | 25 => .boolean
  | 26 => .int
  | 27 => .array .int
  | 28 => .array .int
  | 29 => .array .int
  | 30 => .int
  | 31 => .array .int
  | 32 => .array .int
  | 33 => .array .int
  | 34 => .int
  | 35 => .boolean
  | 36 => .array .int
  | 37 => .object "LoopLane$Result"
  | 38 => .object "LoopLane$Result"
  | 39 => .object "LoopLane$Result"
  | 40 => .array .long
  | 41 => .array .long
  | 42 => .array .int
  | 43 => .array .int
  | 44 => .array .long
  | 45 => .array .long
  | _ => .array .int
abbrev wsX00 : List Cond := u_ws RX0 TX0 47
set_option maxRecDepth 100000 in
theorem nmX0 : ∀ a, a < 47 → ∀ b, b < 47 → a ≠ b → (TX0 a).2.1 ≠ (TX0 b).2.1 := by decide +kernel
set_option maxRecDepth 100000 in
theorem tyX0_ok : ∀ k, k < 47 → parseFieldDescriptor (TX0 k).2.2.1 = some (tyX0 k) := by decide +kernel
abbrev cX0_init : ByteArray := prog_1_method_29_code
def yX0_init : MethodName := ⟨RX0, "<init>", "()V"⟩
abbrev cX0_put : ByteArray := prog_1_method_33_code
def yX0_put : MethodName := ⟨RX0, "put", "(J)I"⟩
abbrev cX0_refuse : ByteArray := prog_1_method_1_code
def yX0_refuse : MethodName := ⟨RX0, "refuse", "(I)I"⟩
abbrev cX0_added : ByteArray := prog_1_method_32_code
def yX0_added : MethodName := ⟨RX0, "added", "(LLoopLane$Act;)I"⟩
abbrev cX0_changed : ByteArray := prog_1_method_17_code
def yX0_changed : MethodName := ⟨RX0, "changed", "()V"⟩
abbrev cX0_findEdges : ByteArray := prog_1_method_7_code
def yX0_findEdges : MethodName := ⟨RX0, "findEdges", "()V"⟩
abbrev cX0_link : ByteArray := prog_1_method_4_code
def yX0_link : MethodName := ⟨RX0, "link", "(IIII)V"⟩
abbrev cX0_linkRows : ByteArray := prog_1_method_5_code
def yX0_linkRows : MethodName := ⟨RX0, "linkRows", "(I)V"⟩
abbrev cX0_linkStore : ByteArray := prog_1_method_6_code
def yX0_linkStore : MethodName := ⟨RX0, "linkStore", "(I)V"⟩
abbrev cX0_reckon : ByteArray := prog_1_method_35_code
def yX0_reckon : MethodName := ⟨RX0, "reckon", "(IIIII)I"⟩
abbrev cX0_isIn : ByteArray := prog_1_method_3_code
def yX0_isIn : MethodName := ⟨RX0, "isIn", "(JJJ)Z"⟩
abbrev cX0_need : ByteArray := prog_1_method_2_code
def yX0_need : MethodName := ⟨RX0, "need", "(ZI)V"⟩
abbrev cX0_needBack : ByteArray := prog_1_method_31_code
def yX0_needBack : MethodName := ⟨RX0, "needBack", "(I)V"⟩
abbrev cX0_needAct : ByteArray := prog_1_method_30_code
def yX0_needAct : MethodName := ⟨RX0, "needAct", "(II)V"⟩
abbrev cX0_reckoning : ByteArray := prog_1_method_34_code
def yX0_reckoning : MethodName := ⟨RX0, "reckoning", "(I)LLoopLane$Act;"⟩
abbrev cX0_fetch : ByteArray := prog_1_method_36_code
def yX0_fetch : MethodName := ⟨RX0, "fetch", "(III)I"⟩
abbrev cX0_store : ByteArray := prog_1_method_37_code
def yX0_store : MethodName := ⟨RX0, "store", "(IIIII)I"⟩
abbrev cX0_pick : ByteArray := prog_1_method_38_code
def yX0_pick : MethodName := ⟨RX0, "pick", "(IIII)I"⟩
abbrev cX0_works : ByteArray := prog_1_method_40_code
def yX0_works : MethodName := ⟨RX0, "works", "(IIII)I"⟩
abbrev cX0_isAct : ByteArray := prog_1_method_39_code
def yX0_isAct : MethodName := ⟨RX0, "isAct", "(I)Z"⟩
abbrev cX0_first : ByteArray := prog_1_method_41_code
def yX0_first : MethodName := ⟨RX0, "first", "(IJ)I"⟩
abbrev cX0_unit : ByteArray := prog_1_method_42_code
def yX0_unit : MethodName := ⟨RX0, "unit", "(II)I"⟩
abbrev cX0_edge : ByteArray := prog_1_method_43_code
def yX0_edge : MethodName := ⟨RX0, "edge", "(IIII)I"⟩
abbrev cX0_undo : ByteArray := prog_1_method_45_code
def yX0_undo : MethodName := ⟨RX0, "undo", "()I"⟩
abbrev cX0_isTaken : ByteArray := prog_1_method_44_code
def yX0_isTaken : MethodName := ⟨RX0, "isTaken", "(I)Z"⟩
abbrev cX0_act : ByteArray := prog_1_method_46_code
def yX0_act : MethodName := ⟨RX0, "act", "(II)I"⟩
abbrev cX0_number : ByteArray := prog_1_method_47_code
def yX0_number : MethodName := ⟨RX0, "number", "(I)J"⟩
abbrev cX0_count : ByteArray := prog_1_method_48_code
def yX0_count : MethodName := ⟨RX0, "count", "(I)I"⟩
abbrev cX0_whole : ByteArray := prog_1_method_49_code
def yX0_whole : MethodName := ⟨RX0, "whole", "()I"⟩
abbrev cX0_isWhole : ByteArray := prog_1_method_18_code
def yX0_isWhole : MethodName := ⟨RX0, "isWhole", "()Z"⟩
abbrev cX0_row : ByteArray := prog_1_method_50_code
def yX0_row : MethodName := ⟨RX0, "row", "(IIZ)I"⟩
abbrev cX0_empty : ByteArray := prog_1_method_51_code
def yX0_empty : MethodName := ⟨RX0, "empty", "(I)I"⟩
abbrev cX0_set : ByteArray := prog_1_method_52_code
def yX0_set : MethodName := ⟨RX0, "set", "(IIJ)I"⟩
abbrev cX0_get : ByteArray := prog_1_method_53_code
def yX0_get : MethodName := ⟨RX0, "get", "(II)J"⟩
abbrev cX0_copy : ByteArray := prog_1_method_55_code
def yX0_copy : MethodName := ⟨RX0, "copy", "(IIIII)I"⟩
abbrev cX0_copied : ByteArray := prog_1_method_54_code
def yX0_copied : MethodName := ⟨RX0, "copied", "(IIIII)I"⟩
abbrev cX0_lowest : ByteArray := prog_1_method_56_code
def yX0_lowest : MethodName := ⟨RX0, "lowest", "()I"⟩
abbrev cX0_lowestBeat : ByteArray := prog_1_method_11_code
def yX0_lowestBeat : MethodName := ⟨RX0, "lowestBeat", "()I"⟩
abbrev cX0_hasUnits : ByteArray := prog_1_method_10_code
def yX0_hasUnits : MethodName := ⟨RX0, "hasUnits", "(I)Z"⟩
abbrev cX0_findWays : ByteArray := prog_1_method_9_code
def yX0_findWays : MethodName := ⟨RX0, "findWays", "(IIZ)Z"⟩
abbrev cX0_roundedUp : ByteArray := prog_1_method_8_code
def yX0_roundedUp : MethodName := ⟨RX0, "roundedUp", "(II)I"⟩
abbrev cX0_lay : ByteArray := prog_1_method_59_code
def yX0_lay : MethodName := ⟨RX0, "lay", "()I"⟩
abbrev cX0_layOut : ByteArray := prog_1_method_58_code
def yX0_layOut : MethodName := ⟨RX0, "layOut", "()I"⟩
abbrev cX0_search : ByteArray := prog_1_method_14_code
def yX0_search : MethodName := ⟨RX0, "search", "(I)Z"⟩
abbrev cX0_place : ByteArray := prog_1_method_13_code
def yX0_place : MethodName := ⟨RX0, "place", "(I)Z"⟩
abbrev cX0_fill : ByteArray := prog_1_method_12_code
def yX0_fill : MethodName := ⟨RX0, "fill", "(II)Z"⟩
abbrev cX0_take : ByteArray := prog_1_method_57_code
def yX0_take : MethodName := ⟨RX0, "take", "(I)V"⟩
abbrev cX0_begin : ByteArray := prog_1_method_15_code
def yX0_begin : MethodName := ⟨RX0, "begin", "(I)I"⟩
abbrev cX0_prove : ByteArray := prog_1_method_60_code
def yX0_prove : MethodName := ⟨RX0, "prove", "(I)I"⟩
abbrev cX0_trials : ByteArray := prog_1_method_61_code
def yX0_trials : MethodName := ⟨RX0, "trials", "()I"⟩
abbrev cX0_laying : ByteArray := prog_1_method_62_code
def yX0_laying : MethodName := ⟨RX0, "laying", "(I)I"⟩
abbrev cX0_mostStages : ByteArray := prog_1_method_16_code
def yX0_mostStages : MethodName := ⟨RX0, "mostStages", "()I"⟩
abbrev cX0_tick : ByteArray := prog_1_method_65_code
def yX0_tick : MethodName := ⟨RX0, "tick", "(II)I"⟩
abbrev cX0_earliest : ByteArray := prog_1_method_63_code
def yX0_earliest : MethodName := ⟨RX0, "earliest", "(I)I"⟩
abbrev cX0_latest : ByteArray := prog_1_method_64_code
def yX0_latest : MethodName := ⟨RX0, "latest", "(I)I"⟩
abbrev cX0_filled : ByteArray := prog_1_method_67_code
def yX0_filled : MethodName := ⟨RX0, "filled", "(II)I"⟩
abbrev cX0_filledAt : ByteArray := prog_1_method_66_code
def yX0_filledAt : MethodName := ⟨RX0, "filledAt", "(IIZ)I"⟩
abbrev cX0_names : ByteArray := prog_1_method_69_code
def yX0_names : MethodName := ⟨RX0, "names", "(I)I"⟩
abbrev cX0_namesOf : ByteArray := prog_1_method_68_code
def yX0_namesOf : MethodName := ⟨RX0, "namesOf", "(I)I"⟩
abbrev cX0_fewest : ByteArray := prog_1_method_70_code
def yX0_fewest : MethodName := ⟨RX0, "fewest", "(I)I"⟩
abbrev cX0_forge : ByteArray := prog_1_method_71_code
def yX0_forge : MethodName := ⟨RX0, "forge", "(II)I"⟩
abbrev cX0_check : ByteArray := prog_1_method_73_code
def yX0_check : MethodName := ⟨RX0, "check", "()I"⟩
abbrev cX0_isAhead : ByteArray := prog_1_method_72_code
def yX0_isAhead : MethodName := ⟨RX0, "isAhead", "(II)Z"⟩
abbrev cX0_wrong : ByteArray := prog_1_method_74_code
def yX0_wrong : MethodName := ⟨RX0, "wrong", "(I)I"⟩
abbrev cX0_run : ByteArray := prog_1_method_75_code
def yX0_run : MethodName := ⟨RX0, "run", "(IZ)I"⟩
abbrev cX0_needRun : ByteArray := prog_1_method_25_code
def yX0_needRun : MethodName := ⟨RX0, "needRun", "(IZ)V"⟩
abbrev cX0_run_2 : ByteArray := prog_1_method_24_code
def yX0_run_2 : MethodName := ⟨RX0, "run", "(LLoopLane$Result;IZ)V"⟩
abbrev cX0_runLaid : ByteArray := prog_1_method_23_code
def yX0_runLaid : MethodName := ⟨RX0, "runLaid", "(LLoopLane$Result;I)V"⟩
abbrev cX0_named : ByteArray := prog_1_method_22_code
def yX0_named : MethodName := ⟨RX0, "named", "(LLoopLane$Act;II)J"⟩
abbrev cX0_work : ByteArray := prog_1_method_19_code
def yX0_work : MethodName := ⟨RX0, "work", "(LLoopLane$Act;JJJI)I"⟩
abbrev cX0_runPlain : ByteArray := prog_1_method_21_code
def yX0_runPlain : MethodName := ⟨RX0, "runPlain", "(LLoopLane$Result;I)V"⟩
abbrev cX0_plainly : ByteArray := prog_1_method_20_code
def yX0_plainly : MethodName := ⟨RX0, "plainly", "(LLoopLane$Act;II)J"⟩
abbrev cX0_compare : ByteArray := prog_1_method_76_code
def yX0_compare : MethodName := ⟨RX0, "compare", "(I)I"⟩
abbrev cX0_compareRuns : ByteArray := prog_1_method_28_code
def yX0_compareRuns : MethodName := ⟨RX0, "compareRuns", "(I)I"⟩
abbrev cX0_keepRows : ByteArray := prog_1_method_26_code
def yX0_keepRows : MethodName := ⟨RX0, "keepRows", "([JZ)V"⟩
abbrev cX0_areRows : ByteArray := prog_1_method_27_code
def yX0_areRows : MethodName := ⟨RX0, "areRows", "([J)Z"⟩
abbrev cX0_told : ByteArray := prog_1_method_77_code
def yX0_told : MethodName := ⟨RX0, "told", "(I)I"⟩
abbrev cX0_end : ByteArray := prog_1_method_78_code
def yX0_end : MethodName := ⟨RX0, "end", "(I)J"⟩
abbrev cX0_again : ByteArray := prog_1_method_79_code
def yX0_again : MethodName := ⟨RX0, "again", "()I"⟩
abbrev cX0_status : ByteArray := prog_1_method_80_code
def yX0_status : MethodName := ⟨RX0, "status", "(I)I"⟩
theorem q73 : (Jvm.Cond.initialized "LoopLane") ∈ lw_all := lw_g (lw_at lw_m1 1 rfl) rfl
theorem q101 : (Jvm.Cond.instantiable "LoopLane" (47 : Nat)) ∈ lw_all := lw_g (lw_at lw_m1 29 rfl) rfl
theorem q103 : (Jvm.Cond.instanceMethod ({ cls := "LoopLane", name := "<init>", desc := "()V" } : Jvm.MethodName)) ∈ lw_all := lw_g (lw_at lw_m1 31 rfl) rfl
theorem q104 : (Jvm.Cond.code ({ cls := "LoopLane", name := "<init>", desc := "()V" } : Jvm.MethodName) prog_1_method_29_code (2 : Nat) (Option.none : Option Jvm.ClassFile.FieldType)) ∈ lw_all := lw_g (lw_at lw_m1 32 rfl) rfl
theorem q105 : (Jvm.Cond.methodLink "LoopLane" (310 : Nat) ({ cls := "java/lang/Object", name := "<init>", desc := "()V" } : Jvm.MethodName)) ∈ lw_all := lw_g (lw_at lw_m1 33 rfl) rfl
theorem q108 : (Jvm.Cond.classLink "LoopLane" (315 : Nat) "LoopLane$Refusal") ∈ lw_all := lw_g (lw_at lw_m1 36 rfl) rfl
theorem q110 : (Jvm.Cond.classLink "LoopLane" (268 : Nat) "LoopLane$Lane") ∈ lw_all := lw_g (lw_at lw_m1 38 rfl) rfl
theorem q112 : (Jvm.Cond.methodLink "LoopLane" (317 : Nat) ({ cls := "LoopLane$Lane", name := "<init>", desc := "()V" } : Jvm.MethodName)) ∈ lw_all := lw_g (lw_at lw_m1 40 rfl) rfl
theorem q124 : (Jvm.Cond.fieldLinkNest "LoopLane" (273 : Nat) "LoopLane$Slot" "held" "Ljava/lang/Object;" "LoopLane") ∈ lw_tbl := lw_at lw_m1 52 rfl
theorem q130 : (Jvm.Cond.fieldLinkNest "LoopLane" (267 : Nat) "LoopLane$Lane" "slots" "[LLoopLane$Slot;" "LoopLane") ∈ lw_tbl := lw_at lw_m1 58 rfl
theorem q134 : (Jvm.Cond.classLink "LoopLane" (36 : Nat) "LoopLane$Act") ∈ lw_all := lw_g (lw_at lw_m1 62 rfl) rfl
theorem q136 : (Jvm.Cond.classLink "LoopLane" (318 : Nat) "LoopLane$Put") ∈ lw_all := lw_g (lw_at lw_m1 64 rfl) rfl
theorem q138 : (Jvm.Cond.classLink "LoopLane" (324 : Nat) "LoopLane$Sum") ∈ lw_all := lw_g (lw_at lw_m1 66 rfl) rfl
theorem q140 : (Jvm.Cond.classLink "LoopLane" (330 : Nat) "LoopLane$Times") ∈ lw_all := lw_g (lw_at lw_m1 68 rfl) rfl
theorem q142 : (Jvm.Cond.classLink "LoopLane" (336 : Nat) "LoopLane$Over") ∈ lw_all := lw_g (lw_at lw_m1 70 rfl) rfl
theorem q144 : (Jvm.Cond.classLink "LoopLane" (342 : Nat) "LoopLane$Fetch") ∈ lw_all := lw_g (lw_at lw_m1 72 rfl) rfl
theorem q146 : (Jvm.Cond.classLink "LoopLane" (348 : Nat) "LoopLane$Store") ∈ lw_all := lw_g (lw_at lw_m1 74 rfl) rfl
theorem q148 : (Jvm.Cond.classLink "LoopLane" (354 : Nat) "LoopLane$Pick") ∈ lw_all := lw_g (lw_at lw_m1 76 rfl) rfl
theorem q150 : (Jvm.Cond.classLink "LoopLane" (173 : Nat) "LoopLane$Result") ∈ lw_all := lw_g (lw_at lw_m1 78 rfl) rfl
theorem q152 : (Jvm.Cond.methodLinkNest "LoopLane" (363 : Nat) ({ cls := "LoopLane$Result", name := "<init>", desc := "()V" } : Jvm.MethodName) "LoopLane") ∈ lw_tbl := lw_at lw_m1 80 rfl
theorem q157 : (Jvm.Cond.fieldLinkNest "LoopLane" (213 : Nat) "LoopLane$Result" "refusal" "I" "LoopLane") ∈ lw_tbl := lw_at lw_m1 85 rfl
theorem q159 : (Jvm.Cond.fieldLinkNest "LoopLane" (216 : Nat) "LoopLane$Result" "act" "I" "LoopLane") ∈ lw_tbl := lw_at lw_m1 87 rfl
theorem q161 : (Jvm.Cond.fieldLinkNest "LoopLane" (219 : Nat) "LoopLane$Result" "turn" "I" "LoopLane") ∈ lw_tbl := lw_at lw_m1 89 rfl
theorem q163 : (Jvm.Cond.fieldLinkNest "LoopLane" (201 : Nat) "LoopLane$Result" "begun" "I" "LoopLane") ∈ lw_tbl := lw_at lw_m1 91 rfl
theorem q165 : (Jvm.Cond.fieldLinkNest "LoopLane" (204 : Nat) "LoopLane$Result" "ticks" "I" "LoopLane") ∈ lw_tbl := lw_at lw_m1 93 rfl
theorem q167 : (Jvm.Cond.fieldLinkNest "LoopLane" (231 : Nat) "LoopLane$Result" "laid" "Z" "LoopLane") ∈ lw_tbl := lw_at lw_m1 95 rfl
theorem q169 : (Jvm.Cond.fieldLinkNest "LoopLane" (222 : Nat) "LoopLane$Result" "whole" "I" "LoopLane") ∈ lw_tbl := lw_at lw_m1 97 rfl
theorem q171 : (Jvm.Cond.fieldLinkNest "LoopLane" (257 : Nat) "LoopLane$Result" "ends" "[J" "LoopLane") ∈ lw_tbl := lw_at lw_m1 99 rfl
theorem q246 : (Jvm.Cond.methodLink "LoopLane" (367 : Nat) ({ cls := "LoopLane$Refusal", name := "<init>", desc := "(I)V" } : Jvm.MethodName)) ∈ lw_all := lw_g (lw_at lw_m1 174 rfl) rfl
theorem q259 : (Jvm.Cond.fieldLinkNest "LoopLane" (417 : Nat) "LoopLane$Refusal" "code" "I" "LoopLane") ∈ lw_tbl := lw_at lw_m1 187 rfl
theorem q276 : (Jvm.Cond.methodLinkNest "LoopLane" (369 : Nat) ({ cls := "LoopLane$Put", name := "<init>", desc := "()V" } : Jvm.MethodName) "LoopLane") ∈ lw_tbl := lw_at lw_m1 204 rfl
theorem q284 : (Jvm.Cond.fieldLinkNest "LoopLane" (392 : Nat) "LoopLane$Put" "number" "J" "LoopLane") ∈ lw_tbl := lw_at lw_m1 212 rfl
theorem q286 : (Jvm.Cond.fieldLink "LoopLane" (59 : Nat) "LoopLane$Act" "lag" "I") ∈ lw_all := lw_g (lw_at lw_m1 214 rfl) rfl
theorem q288 : (Jvm.Cond.fieldLink "LoopLane" (109 : Nat) "LoopLane$Act" "unit" "I") ∈ lw_all := lw_g (lw_at lw_m1 216 rfl) rfl
theorem q290 : (Jvm.Cond.fieldLink "LoopLane" (126 : Nat) "LoopLane$Act" "pattern" "I") ∈ lw_all := lw_g (lw_at lw_m1 218 rfl) rfl
theorem q292 : (Jvm.Cond.fieldLink "LoopLane" (197 : Nat) "LoopLane$Act" "first" "J") ∈ lw_all := lw_g (lw_at lw_m1 220 rfl) rfl
theorem q294 : (Jvm.Cond.fieldLink "LoopLane" (55 : Nat) "LoopLane$Act" "many" "I") ∈ lw_all := lw_g (lw_at lw_m1 222 rfl) rfl
theorem q296 : (Jvm.Cond.fieldLink "LoopLane" (56 : Nat) "LoopLane$Act" "of" "[I") ∈ lw_all := lw_g (lw_at lw_m1 224 rfl) rfl
theorem q298 : (Jvm.Cond.fieldLink "LoopLane" (62 : Nat) "LoopLane$Act" "back" "[I") ∈ lw_all := lw_g (lw_at lw_m1 226 rfl) rfl
theorem q317 : (Jvm.Cond.methodLinkNest "LoopLane" (370 : Nat) ({ cls := "LoopLane$Sum", name := "<init>", desc := "()V" } : Jvm.MethodName) "LoopLane") ∈ lw_tbl := lw_at lw_m2 5 rfl
theorem q330 : (Jvm.Cond.methodLinkNest "LoopLane" (371 : Nat) ({ cls := "LoopLane$Times", name := "<init>", desc := "()V" } : Jvm.MethodName) "LoopLane") ∈ lw_tbl := lw_at lw_m2 18 rfl
theorem q343 : (Jvm.Cond.methodLinkNest "LoopLane" (372 : Nat) ({ cls := "LoopLane$Over", name := "<init>", desc := "()V" } : Jvm.MethodName) "LoopLane") ∈ lw_tbl := lw_at lw_m2 31 rfl
theorem q356 : (Jvm.Cond.methodLinkNest "LoopLane" (373 : Nat) ({ cls := "LoopLane$Fetch", name := "<init>", desc := "()V" } : Jvm.MethodName) "LoopLane") ∈ lw_tbl := lw_at lw_m2 44 rfl
theorem q361 : (Jvm.Cond.fieldLinkNest "LoopLane" (423 : Nat) "LoopLane$Fetch" "slot" "I" "LoopLane") ∈ lw_tbl := lw_at lw_m2 49 rfl
theorem q373 : (Jvm.Cond.methodLinkNest "LoopLane" (374 : Nat) ({ cls := "LoopLane$Store", name := "<init>", desc := "()V" } : Jvm.MethodName) "LoopLane") ∈ lw_tbl := lw_at lw_m2 61 rfl
theorem q387 : (Jvm.Cond.methodLinkNest "LoopLane" (375 : Nat) ({ cls := "LoopLane$Pick", name := "<init>", desc := "()V" } : Jvm.MethodName) "LoopLane") ∈ lw_tbl := lw_at lw_m2 75 rfl
theorem q399 : (Jvm.Cond.methodLink "LoopLane" (172 : Nat) ({ cls := "LoopLane$Result", name := "clear", desc := "()V" } : Jvm.MethodName)) ∈ lw_all := lw_g (lw_at lw_m2 87 rfl) rfl
theorem q403 : (Jvm.Cond.fieldLink "LoopLane" (7 : Nat) "LoopLane" "refusals" "[LLoopLane$Refusal;") ∈ lw_all := lw_g (lw_at lw_m2 91 rfl) rfl
theorem q404 : (Jvm.Cond.fieldLink "LoopLane" (1 : Nat) "LoopLane" "refused" "[I") ∈ lw_all := lw_g (lw_at lw_m2 92 rfl) rfl
theorem q405 : (Jvm.Cond.fieldLink "LoopLane" (11 : Nat) "LoopLane" "latest" "Ljava/lang/RuntimeException;") ∈ lw_all := lw_g (lw_at lw_m2 93 rfl) rfl
theorem q406 : (Jvm.Cond.fieldLink "LoopLane" (181 : Nat) "LoopLane" "lane" "LLoopLane$Lane;") ∈ lw_all := lw_g (lw_at lw_m2 94 rfl) rfl
theorem q407 : (Jvm.Cond.fieldLink "LoopLane" (31 : Nat) "LoopLane" "acts" "[LLoopLane$Act;") ∈ lw_all := lw_g (lw_at lw_m2 95 rfl) rfl
theorem q408 : (Jvm.Cond.fieldLink "LoopLane" (41 : Nat) "LoopLane" "many" "I") ∈ lw_all := lw_g (lw_at lw_m2 96 rfl) rfl
theorem q409 : (Jvm.Cond.fieldLink "LoopLane" (320 : Nat) "LoopLane" "puts" "[LLoopLane$Put;") ∈ lw_all := lw_g (lw_at lw_m2 97 rfl) rfl
theorem q410 : (Jvm.Cond.fieldLink "LoopLane" (326 : Nat) "LoopLane" "sums" "[LLoopLane$Sum;") ∈ lw_all := lw_g (lw_at lw_m2 98 rfl) rfl
theorem q411 : (Jvm.Cond.fieldLink "LoopLane" (332 : Nat) "LoopLane" "products" "[LLoopLane$Times;") ∈ lw_all := lw_g (lw_at lw_m2 99 rfl) rfl
theorem q412 : (Jvm.Cond.fieldLink "LoopLane" (338 : Nat) "LoopLane" "overs" "[LLoopLane$Over;") ∈ lw_all := lw_g (lw_at lw_m2 100 rfl) rfl
theorem q413 : (Jvm.Cond.fieldLink "LoopLane" (344 : Nat) "LoopLane" "fetches" "[LLoopLane$Fetch;") ∈ lw_all := lw_g (lw_at lw_m2 101 rfl) rfl
theorem q414 : (Jvm.Cond.fieldLink "LoopLane" (350 : Nat) "LoopLane" "stores" "[LLoopLane$Store;") ∈ lw_all := lw_g (lw_at lw_m2 102 rfl) rfl
theorem q415 : (Jvm.Cond.fieldLink "LoopLane" (356 : Nat) "LoopLane" "picks" "[LLoopLane$Pick;") ∈ lw_all := lw_g (lw_at lw_m2 103 rfl) rfl
theorem q416 : (Jvm.Cond.fieldLink "LoopLane" (115 : Nat) "LoopLane" "units" "[I") ∈ lw_all := lw_g (lw_at lw_m2 104 rfl) rfl
theorem q417 : (Jvm.Cond.fieldLink "LoopLane" (78 : Nat) "LoopLane" "toldA" "[I") ∈ lw_all := lw_g (lw_at lw_m2 105 rfl) rfl
theorem q418 : (Jvm.Cond.fieldLink "LoopLane" (81 : Nat) "LoopLane" "toldB" "[I") ∈ lw_all := lw_g (lw_at lw_m2 106 rfl) rfl
theorem q419 : (Jvm.Cond.fieldLink "LoopLane" (84 : Nat) "LoopLane" "toldTicks" "[I") ∈ lw_all := lw_g (lw_at lw_m2 107 rfl) rfl
theorem q420 : (Jvm.Cond.fieldLink "LoopLane" (87 : Nat) "LoopLane" "toldTurns" "[I") ∈ lw_all := lw_g (lw_at lw_m2 108 rfl) rfl
theorem q421 : (Jvm.Cond.fieldLink "LoopLane" (75 : Nat) "LoopLane" "told" "I") ∈ lw_all := lw_g (lw_at lw_m2 109 rfl) rfl
theorem q422 : (Jvm.Cond.fieldLink "LoopLane" (15 : Nat) "LoopLane" "edgeA" "[I") ∈ lw_all := lw_g (lw_at lw_m2 110 rfl) rfl
theorem q423 : (Jvm.Cond.fieldLink "LoopLane" (22 : Nat) "LoopLane" "edgeB" "[I") ∈ lw_all := lw_g (lw_at lw_m2 111 rfl) rfl
theorem q424 : (Jvm.Cond.fieldLink "LoopLane" (25 : Nat) "LoopLane" "edgeTicks" "[I") ∈ lw_all := lw_g (lw_at lw_m2 112 rfl) rfl
theorem q425 : (Jvm.Cond.fieldLink "LoopLane" (28 : Nat) "LoopLane" "edgeTurns" "[I") ∈ lw_all := lw_g (lw_at lw_m2 113 rfl) rfl
theorem q426 : (Jvm.Cond.fieldLink "LoopLane" (18 : Nat) "LoopLane" "edges" "I") ∈ lw_all := lw_g (lw_at lw_m2 114 rfl) rfl
theorem q427 : (Jvm.Cond.fieldLink "LoopLane" (72 : Nat) "LoopLane" "ofBody" "I") ∈ lw_all := lw_g (lw_at lw_m2 115 rfl) rfl
theorem q428 : (Jvm.Cond.fieldLink "LoopLane" (161 : Nat) "LoopLane" "isLaid" "Z") ∈ lw_all := lw_g (lw_at lw_m2 116 rfl) rfl
theorem q429 : (Jvm.Cond.fieldLink "LoopLane" (152 : Nat) "LoopLane" "beat" "I") ∈ lw_all := lw_g (lw_at lw_m2 117 rfl) rfl
theorem q430 : (Jvm.Cond.fieldLink "LoopLane" (158 : Nat) "LoopLane" "ticks" "[I") ∈ lw_all := lw_g (lw_at lw_m2 118 rfl) rfl
theorem q431 : (Jvm.Cond.fieldLink "LoopLane" (155 : Nat) "LoopLane" "stages" "[I") ∈ lw_all := lw_g (lw_at lw_m2 119 rfl) rfl
theorem q432 : (Jvm.Cond.fieldLink "LoopLane" (360 : Nat) "LoopLane" "forged" "[I") ∈ lw_all := lw_g (lw_at lw_m2 120 rfl) rfl
theorem q433 : (Jvm.Cond.fieldLink "LoopLane" (129 : Nat) "LoopLane" "tryBeat" "I") ∈ lw_all := lw_g (lw_at lw_m2 121 rfl) rfl
theorem q434 : (Jvm.Cond.fieldLink "LoopLane" (100 : Nat) "LoopLane" "tryTicks" "[I") ∈ lw_all := lw_g (lw_at lw_m2 122 rfl) rfl
theorem q435 : (Jvm.Cond.fieldLink "LoopLane" (149 : Nat) "LoopLane" "tryStages" "[I") ∈ lw_all := lw_g (lw_at lw_m2 123 rfl) rfl
theorem q436 : (Jvm.Cond.fieldLink "LoopLane" (132 : Nat) "LoopLane" "full" "[I") ∈ lw_all := lw_g (lw_at lw_m2 124 rfl) rfl
theorem q437 : (Jvm.Cond.fieldLink "LoopLane" (135 : Nat) "LoopLane" "trials" "I") ∈ lw_all := lw_g (lw_at lw_m2 125 rfl) rfl
theorem q438 : (Jvm.Cond.fieldLink "LoopLane" (138 : Nat) "LoopLane" "isSpent" "Z") ∈ lw_all := lw_g (lw_at lw_m2 126 rfl) rfl
theorem q439 : (Jvm.Cond.fieldLink "LoopLane" (96 : Nat) "LoopLane" "way" "[I") ∈ lw_all := lw_g (lw_at lw_m2 127 rfl) rfl
theorem q440 : (Jvm.Cond.fieldLink "LoopLane" (168 : Nat) "LoopLane" "result" "LLoopLane$Result;") ∈ lw_all := lw_g (lw_at lw_m2 128 rfl) rfl
theorem q441 : (Jvm.Cond.fieldLink "LoopLane" (293 : Nat) "LoopLane" "other" "LLoopLane$Result;") ∈ lw_all := lw_g (lw_at lw_m2 129 rfl) rfl
theorem q442 : (Jvm.Cond.fieldLink "LoopLane" (303 : Nat) "LoopLane" "third" "LLoopLane$Result;") ∈ lw_all := lw_g (lw_at lw_m2 130 rfl) rfl
theorem q443 : (Jvm.Cond.fieldLink "LoopLane" (177 : Nat) "LoopLane" "end" "[J") ∈ lw_all := lw_g (lw_at lw_m2 131 rfl) rfl
theorem q444 : (Jvm.Cond.fieldLink "LoopLane" (225 : Nat) "LoopLane" "places" "[J") ∈ lw_all := lw_g (lw_at lw_m2 132 rfl) rfl
theorem q445 : (Jvm.Cond.fieldLink "LoopLane" (228 : Nat) "LoopLane" "name" "[I") ∈ lw_all := lw_g (lw_at lw_m2 133 rfl) rfl
theorem q446 : (Jvm.Cond.fieldLink "LoopLane" (238 : Nat) "LoopLane" "beginOf" "[I") ∈ lw_all := lw_g (lw_at lw_m2 134 rfl) rfl
theorem q447 : (Jvm.Cond.fieldLink "LoopLane" (286 : Nat) "LoopLane" "kept" "[J") ∈ lw_all := lw_g (lw_at lw_m2 135 rfl) rfl
theorem q448 : (Jvm.Cond.fieldLink "LoopLane" (300 : Nat) "LoopLane" "compared" "[J") ∈ lw_all := lw_g (lw_at lw_m2 136 rfl) rfl
theorem q449 : (Jvm.Cond.fieldLink "LoopLane" (364 : Nat) "LoopLane" "wrongs" "[I") ∈ lw_all := lw_g (lw_at lw_m2 137 rfl) rfl
theorem q450 : (Jvm.Cond.laysFinal "LoopLane" "LoopLane" "refusals" "[LLoopLane$Refusal;") ∈ lw_all := lw_g (lw_at lw_m2 138 rfl) rfl
theorem q451 : (Jvm.Cond.soleField "LoopLane" "refusals") ∈ lw_all := lw_g (lw_at lw_m2 139 rfl) rfl
theorem q452 : (Jvm.Cond.laysFinal "LoopLane" "LoopLane" "refused" "[I") ∈ lw_all := lw_g (lw_at lw_m2 140 rfl) rfl
theorem q453 : (Jvm.Cond.soleField "LoopLane" "refused") ∈ lw_all := lw_g (lw_at lw_m2 141 rfl) rfl
theorem q454 : (Jvm.Cond.lays "LoopLane" "LoopLane" "latest" "Ljava/lang/RuntimeException;") ∈ lw_all := lw_g (lw_at lw_m2 142 rfl) rfl
theorem q455 : (Jvm.Cond.soleField "LoopLane" "latest") ∈ lw_all := lw_g (lw_at lw_m2 143 rfl) rfl
theorem q456 : (Jvm.Cond.laysFinal "LoopLane" "LoopLane" "lane" "LLoopLane$Lane;") ∈ lw_all := lw_g (lw_at lw_m2 144 rfl) rfl
theorem q457 : (Jvm.Cond.soleField "LoopLane" "lane") ∈ lw_all := lw_g (lw_at lw_m2 145 rfl) rfl
theorem q458 : (Jvm.Cond.laysFinal "LoopLane" "LoopLane" "acts" "[LLoopLane$Act;") ∈ lw_all := lw_g (lw_at lw_m2 146 rfl) rfl
theorem q459 : (Jvm.Cond.soleField "LoopLane" "acts") ∈ lw_all := lw_g (lw_at lw_m2 147 rfl) rfl
theorem q460 : (Jvm.Cond.lays "LoopLane" "LoopLane" "many" "I") ∈ lw_all := lw_g (lw_at lw_m2 148 rfl) rfl
theorem q461 : (Jvm.Cond.soleField "LoopLane" "many") ∈ lw_all := lw_g (lw_at lw_m2 149 rfl) rfl
theorem q462 : (Jvm.Cond.laysFinal "LoopLane" "LoopLane" "puts" "[LLoopLane$Put;") ∈ lw_all := lw_g (lw_at lw_m2 150 rfl) rfl
theorem q463 : (Jvm.Cond.soleField "LoopLane" "puts") ∈ lw_all := lw_g (lw_at lw_m2 151 rfl) rfl
theorem q464 : (Jvm.Cond.laysFinal "LoopLane" "LoopLane" "sums" "[LLoopLane$Sum;") ∈ lw_all := lw_g (lw_at lw_m2 152 rfl) rfl
theorem q465 : (Jvm.Cond.soleField "LoopLane" "sums") ∈ lw_all := lw_g (lw_at lw_m2 153 rfl) rfl
theorem q466 : (Jvm.Cond.laysFinal "LoopLane" "LoopLane" "products" "[LLoopLane$Times;") ∈ lw_all := lw_g (lw_at lw_m2 154 rfl) rfl
theorem q467 : (Jvm.Cond.soleField "LoopLane" "products") ∈ lw_all := lw_g (lw_at lw_m2 155 rfl) rfl
theorem q468 : (Jvm.Cond.laysFinal "LoopLane" "LoopLane" "overs" "[LLoopLane$Over;") ∈ lw_all := lw_g (lw_at lw_m2 156 rfl) rfl
theorem q469 : (Jvm.Cond.soleField "LoopLane" "overs") ∈ lw_all := lw_g (lw_at lw_m2 157 rfl) rfl
theorem q470 : (Jvm.Cond.laysFinal "LoopLane" "LoopLane" "fetches" "[LLoopLane$Fetch;") ∈ lw_all := lw_g (lw_at lw_m2 158 rfl) rfl
theorem q471 : (Jvm.Cond.soleField "LoopLane" "fetches") ∈ lw_all := lw_g (lw_at lw_m2 159 rfl) rfl
theorem q472 : (Jvm.Cond.laysFinal "LoopLane" "LoopLane" "stores" "[LLoopLane$Store;") ∈ lw_all := lw_g (lw_at lw_m2 160 rfl) rfl
theorem q473 : (Jvm.Cond.soleField "LoopLane" "stores") ∈ lw_all := lw_g (lw_at lw_m2 161 rfl) rfl
theorem q474 : (Jvm.Cond.laysFinal "LoopLane" "LoopLane" "picks" "[LLoopLane$Pick;") ∈ lw_all := lw_g (lw_at lw_m2 162 rfl) rfl
theorem q475 : (Jvm.Cond.soleField "LoopLane" "picks") ∈ lw_all := lw_g (lw_at lw_m2 163 rfl) rfl
theorem q476 : (Jvm.Cond.laysFinal "LoopLane" "LoopLane" "units" "[I") ∈ lw_all := lw_g (lw_at lw_m2 164 rfl) rfl
theorem q477 : (Jvm.Cond.soleField "LoopLane" "units") ∈ lw_all := lw_g (lw_at lw_m2 165 rfl) rfl
theorem q478 : (Jvm.Cond.laysFinal "LoopLane" "LoopLane" "toldA" "[I") ∈ lw_all := lw_g (lw_at lw_m2 166 rfl) rfl
theorem q479 : (Jvm.Cond.soleField "LoopLane" "toldA") ∈ lw_all := lw_g (lw_at lw_m2 167 rfl) rfl
theorem q480 : (Jvm.Cond.laysFinal "LoopLane" "LoopLane" "toldB" "[I") ∈ lw_all := lw_g (lw_at lw_m2 168 rfl) rfl
theorem q481 : (Jvm.Cond.soleField "LoopLane" "toldB") ∈ lw_all := lw_g (lw_at lw_m2 169 rfl) rfl
theorem q482 : (Jvm.Cond.laysFinal "LoopLane" "LoopLane" "toldTicks" "[I") ∈ lw_all := lw_g (lw_at lw_m2 170 rfl) rfl
theorem q483 : (Jvm.Cond.soleField "LoopLane" "toldTicks") ∈ lw_all := lw_g (lw_at lw_m2 171 rfl) rfl
theorem q484 : (Jvm.Cond.laysFinal "LoopLane" "LoopLane" "toldTurns" "[I") ∈ lw_all := lw_g (lw_at lw_m2 172 rfl) rfl
theorem q485 : (Jvm.Cond.soleField "LoopLane" "toldTurns") ∈ lw_all := lw_g (lw_at lw_m2 173 rfl) rfl
theorem q486 : (Jvm.Cond.lays "LoopLane" "LoopLane" "told" "I") ∈ lw_all := lw_g (lw_at lw_m2 174 rfl) rfl
theorem q487 : (Jvm.Cond.soleField "LoopLane" "told") ∈ lw_all := lw_g (lw_at lw_m2 175 rfl) rfl
theorem q488 : (Jvm.Cond.laysFinal "LoopLane" "LoopLane" "edgeA" "[I") ∈ lw_all := lw_g (lw_at lw_m2 176 rfl) rfl
theorem q489 : (Jvm.Cond.soleField "LoopLane" "edgeA") ∈ lw_all := lw_g (lw_at lw_m2 177 rfl) rfl
theorem q490 : (Jvm.Cond.laysFinal "LoopLane" "LoopLane" "edgeB" "[I") ∈ lw_all := lw_g (lw_at lw_m2 178 rfl) rfl
theorem q491 : (Jvm.Cond.soleField "LoopLane" "edgeB") ∈ lw_all := lw_g (lw_at lw_m2 179 rfl) rfl
theorem q492 : (Jvm.Cond.laysFinal "LoopLane" "LoopLane" "edgeTicks" "[I") ∈ lw_all := lw_g (lw_at lw_m2 180 rfl) rfl
theorem q493 : (Jvm.Cond.soleField "LoopLane" "edgeTicks") ∈ lw_all := lw_g (lw_at lw_m2 181 rfl) rfl
theorem q494 : (Jvm.Cond.laysFinal "LoopLane" "LoopLane" "edgeTurns" "[I") ∈ lw_all := lw_g (lw_at lw_m2 182 rfl) rfl
theorem q495 : (Jvm.Cond.soleField "LoopLane" "edgeTurns") ∈ lw_all := lw_g (lw_at lw_m2 183 rfl) rfl
theorem q496 : (Jvm.Cond.lays "LoopLane" "LoopLane" "edges" "I") ∈ lw_all := lw_g (lw_at lw_m2 184 rfl) rfl
theorem q497 : (Jvm.Cond.soleField "LoopLane" "edges") ∈ lw_all := lw_g (lw_at lw_m2 185 rfl) rfl
theorem q498 : (Jvm.Cond.lays "LoopLane" "LoopLane" "ofBody" "I") ∈ lw_all := lw_g (lw_at lw_m2 186 rfl) rfl
theorem q499 : (Jvm.Cond.soleField "LoopLane" "ofBody") ∈ lw_all := lw_g (lw_at lw_m2 187 rfl) rfl
theorem q500 : (Jvm.Cond.lays "LoopLane" "LoopLane" "isLaid" "Z") ∈ lw_all := lw_g (lw_at lw_m2 188 rfl) rfl
theorem q501 : (Jvm.Cond.soleField "LoopLane" "isLaid") ∈ lw_all := lw_g (lw_at lw_m2 189 rfl) rfl
theorem q502 : (Jvm.Cond.lays "LoopLane" "LoopLane" "beat" "I") ∈ lw_all := lw_g (lw_at lw_m2 190 rfl) rfl
theorem q503 : (Jvm.Cond.soleField "LoopLane" "beat") ∈ lw_all := lw_g (lw_at lw_m2 191 rfl) rfl
theorem q504 : (Jvm.Cond.laysFinal "LoopLane" "LoopLane" "ticks" "[I") ∈ lw_all := lw_g (lw_at lw_m2 192 rfl) rfl
theorem q505 : (Jvm.Cond.soleField "LoopLane" "ticks") ∈ lw_all := lw_g (lw_at lw_m2 193 rfl) rfl
theorem q506 : (Jvm.Cond.laysFinal "LoopLane" "LoopLane" "stages" "[I") ∈ lw_all := lw_g (lw_at lw_m2 194 rfl) rfl
theorem q507 : (Jvm.Cond.soleField "LoopLane" "stages") ∈ lw_all := lw_g (lw_at lw_m2 195 rfl) rfl
theorem q508 : (Jvm.Cond.laysFinal "LoopLane" "LoopLane" "forged" "[I") ∈ lw_all := lw_g (lw_at lw_m2 196 rfl) rfl
theorem q509 : (Jvm.Cond.soleField "LoopLane" "forged") ∈ lw_all := lw_g (lw_at lw_m2 197 rfl) rfl
theorem q510 : (Jvm.Cond.lays "LoopLane" "LoopLane" "tryBeat" "I") ∈ lw_all := lw_g (lw_at lw_m2 198 rfl) rfl
theorem q511 : (Jvm.Cond.soleField "LoopLane" "tryBeat") ∈ lw_all := lw_g (lw_at lw_m2 199 rfl) rfl
theorem q512 : (Jvm.Cond.laysFinal "LoopLane" "LoopLane" "tryTicks" "[I") ∈ lw_all := lw_g (lw_at lw_m2 200 rfl) rfl
theorem q513 : (Jvm.Cond.soleField "LoopLane" "tryTicks") ∈ lw_all := lw_g (lw_at lw_m2 201 rfl) rfl
theorem q514 : (Jvm.Cond.laysFinal "LoopLane" "LoopLane" "tryStages" "[I") ∈ lw_all := lw_g (lw_at lw_m2 202 rfl) rfl
theorem q515 : (Jvm.Cond.soleField "LoopLane" "tryStages") ∈ lw_all := lw_g (lw_at lw_m2 203 rfl) rfl
theorem q516 : (Jvm.Cond.laysFinal "LoopLane" "LoopLane" "full" "[I") ∈ lw_all := lw_g (lw_at lw_m2 204 rfl) rfl
theorem q517 : (Jvm.Cond.soleField "LoopLane" "full") ∈ lw_all := lw_g (lw_at lw_m2 205 rfl) rfl
theorem q518 : (Jvm.Cond.lays "LoopLane" "LoopLane" "trials" "I") ∈ lw_all := lw_g (lw_at lw_m2 206 rfl) rfl
theorem q519 : (Jvm.Cond.soleField "LoopLane" "trials") ∈ lw_all := lw_g (lw_at lw_m2 207 rfl) rfl
theorem q520 : (Jvm.Cond.lays "LoopLane" "LoopLane" "isSpent" "Z") ∈ lw_all := lw_g (lw_at lw_m2 208 rfl) rfl
theorem q521 : (Jvm.Cond.soleField "LoopLane" "isSpent") ∈ lw_all := lw_g (lw_at lw_m2 209 rfl) rfl
theorem q522 : (Jvm.Cond.laysFinal "LoopLane" "LoopLane" "way" "[I") ∈ lw_all := lw_g (lw_at lw_m2 210 rfl) rfl
theorem q523 : (Jvm.Cond.soleField "LoopLane" "way") ∈ lw_all := lw_g (lw_at lw_m2 211 rfl) rfl
theorem q524 : (Jvm.Cond.lays "LoopLane" "LoopLane" "result" "LLoopLane$Result;") ∈ lw_all := lw_g (lw_at lw_m2 212 rfl) rfl
theorem q525 : (Jvm.Cond.soleField "LoopLane" "result") ∈ lw_all := lw_g (lw_at lw_m2 213 rfl) rfl
theorem q526 : (Jvm.Cond.lays "LoopLane" "LoopLane" "other" "LLoopLane$Result;") ∈ lw_all := lw_g (lw_at lw_m2 214 rfl) rfl
theorem q527 : (Jvm.Cond.soleField "LoopLane" "other") ∈ lw_all := lw_g (lw_at lw_m2 215 rfl) rfl
theorem q528 : (Jvm.Cond.laysFinal "LoopLane" "LoopLane" "third" "LLoopLane$Result;") ∈ lw_all := lw_g (lw_at lw_m2 216 rfl) rfl
theorem q529 : (Jvm.Cond.soleField "LoopLane" "third") ∈ lw_all := lw_g (lw_at lw_m2 217 rfl) rfl
theorem q530 : (Jvm.Cond.laysFinal "LoopLane" "LoopLane" "end" "[J") ∈ lw_all := lw_g (lw_at lw_m2 218 rfl) rfl
theorem q531 : (Jvm.Cond.soleField "LoopLane" "end") ∈ lw_all := lw_g (lw_at lw_m2 219 rfl) rfl
theorem q532 : (Jvm.Cond.laysFinal "LoopLane" "LoopLane" "places" "[J") ∈ lw_all := lw_g (lw_at lw_m2 220 rfl) rfl
theorem q533 : (Jvm.Cond.soleField "LoopLane" "places") ∈ lw_all := lw_g (lw_at lw_m2 221 rfl) rfl
theorem q534 : (Jvm.Cond.laysFinal "LoopLane" "LoopLane" "name" "[I") ∈ lw_all := lw_g (lw_at lw_m2 222 rfl) rfl
theorem q535 : (Jvm.Cond.soleField "LoopLane" "name") ∈ lw_all := lw_g (lw_at lw_m2 223 rfl) rfl
theorem q536 : (Jvm.Cond.laysFinal "LoopLane" "LoopLane" "beginOf" "[I") ∈ lw_all := lw_g (lw_at lw_m2 224 rfl) rfl
theorem q537 : (Jvm.Cond.soleField "LoopLane" "beginOf") ∈ lw_all := lw_g (lw_at lw_m2 225 rfl) rfl
theorem q538 : (Jvm.Cond.laysFinal "LoopLane" "LoopLane" "kept" "[J") ∈ lw_all := lw_g (lw_at lw_m2 226 rfl) rfl
theorem q539 : (Jvm.Cond.soleField "LoopLane" "kept") ∈ lw_all := lw_g (lw_at lw_m2 227 rfl) rfl
theorem q540 : (Jvm.Cond.laysFinal "LoopLane" "LoopLane" "compared" "[J") ∈ lw_all := lw_g (lw_at lw_m2 228 rfl) rfl
theorem q541 : (Jvm.Cond.soleField "LoopLane" "compared") ∈ lw_all := lw_g (lw_at lw_m2 229 rfl) rfl
theorem q542 : (Jvm.Cond.laysFinal "LoopLane" "LoopLane" "wrongs" "[I") ∈ lw_all := lw_g (lw_at lw_m2 230 rfl) rfl
theorem q543 : (Jvm.Cond.soleField "LoopLane" "wrongs") ∈ lw_all := lw_g (lw_at lw_m2 231 rfl) rfl
theorem q544 : (Jvm.Cond.superclass "LoopLane" "java/lang/Object") ∈ lw_all := lw_g (lw_at lw_m2 232 rfl) rfl
theorem q546 : (Jvm.Cond.instanceMethod ({ cls := "LoopLane", name := "put", desc := "(J)I" } : Jvm.MethodName)) ∈ lw_all := lw_g (lw_at lw_m2 234 rfl) rfl
theorem q547 : (Jvm.Cond.selects "LoopLane" ({ cls := "LoopLane", name := "put", desc := "(J)I" } : Jvm.MethodName) ({ cls := "LoopLane", name := "put", desc := "(J)I" } : Jvm.MethodName)) ∈ lw_all := lw_g (lw_at lw_m2 235 rfl) rfl
theorem q548 : (Jvm.Cond.code ({ cls := "LoopLane", name := "put", desc := "(J)I" } : Jvm.MethodName) prog_1_method_33_code (3 : Nat) (Option.some Jvm.ClassFile.FieldType.int)) ∈ lw_all := lw_g (lw_at lw_m2 236 rfl) rfl
theorem q549 : (Jvm.Cond.methodLink "LoopLane" (387 : Nat) ({ cls := "LoopLane", name := "refuse", desc := "(I)I" } : Jvm.MethodName)) ∈ lw_all := lw_g (lw_at lw_m2 237 rfl) rfl
theorem q550 : (Jvm.Cond.privateMethod ({ cls := "LoopLane", name := "refuse", desc := "(I)I" } : Jvm.MethodName)) ∈ lw_tbl := lw_at lw_m2 238 rfl
theorem q551 : (Jvm.Cond.instanceMethod ({ cls := "LoopLane", name := "refuse", desc := "(I)I" } : Jvm.MethodName)) ∈ lw_all := lw_g (lw_at lw_m2 239 rfl) rfl
theorem q552 : (Jvm.Cond.code ({ cls := "LoopLane", name := "refuse", desc := "(I)I" } : Jvm.MethodName) prog_1_method_1_code (2 : Nat) (Option.some Jvm.ClassFile.FieldType.int)) ∈ lw_all := lw_g (lw_at lw_m3 0 rfl) rfl
theorem q553 : (Jvm.Cond.methodLink "LoopLane" (390 : Nat) ({ cls := "LoopLane$Put", name := "begin", desc := "(I)V" } : Jvm.MethodName)) ∈ lw_all := lw_g (lw_at lw_m3 1 rfl) rfl
theorem q559 : (Jvm.Cond.methodLink "LoopLane" (395 : Nat) ({ cls := "LoopLane", name := "added", desc := "(LLoopLane$Act;)I" } : Jvm.MethodName)) ∈ lw_all := lw_g (lw_at lw_m3 7 rfl) rfl
theorem q560 : (Jvm.Cond.privateMethod ({ cls := "LoopLane", name := "added", desc := "(LLoopLane$Act;)I" } : Jvm.MethodName)) ∈ lw_tbl := lw_at lw_m3 8 rfl
theorem q561 : (Jvm.Cond.instanceMethod ({ cls := "LoopLane", name := "added", desc := "(LLoopLane$Act;)I" } : Jvm.MethodName)) ∈ lw_all := lw_g (lw_at lw_m3 9 rfl) rfl
theorem q562 : (Jvm.Cond.code ({ cls := "LoopLane", name := "added", desc := "(LLoopLane$Act;)I" } : Jvm.MethodName) prog_1_method_32_code (2 : Nat) (Option.some Jvm.ClassFile.FieldType.int)) ∈ lw_all := lw_g (lw_at lw_m3 10 rfl) rfl
theorem q563 : (Jvm.Cond.methodLink "LoopLane" (384 : Nat) ({ cls := "LoopLane", name := "changed", desc := "()V" } : Jvm.MethodName)) ∈ lw_all := lw_g (lw_at lw_m3 11 rfl) rfl
theorem q564 : (Jvm.Cond.privateMethod ({ cls := "LoopLane", name := "changed", desc := "()V" } : Jvm.MethodName)) ∈ lw_tbl := lw_at lw_m3 12 rfl
theorem q565 : (Jvm.Cond.instanceMethod ({ cls := "LoopLane", name := "changed", desc := "()V" } : Jvm.MethodName)) ∈ lw_all := lw_g (lw_at lw_m3 13 rfl) rfl
theorem q566 : (Jvm.Cond.code ({ cls := "LoopLane", name := "changed", desc := "()V" } : Jvm.MethodName) prog_1_method_17_code (1 : Nat) (Option.none : Option Jvm.ClassFile.FieldType)) ∈ lw_all := lw_g (lw_at lw_m3 14 rfl) rfl
theorem q567 : (Jvm.Cond.methodLink "LoopLane" (164 : Nat) ({ cls := "LoopLane", name := "findEdges", desc := "()V" } : Jvm.MethodName)) ∈ lw_all := lw_g (lw_at lw_m3 15 rfl) rfl
theorem q568 : (Jvm.Cond.privateMethod ({ cls := "LoopLane", name := "findEdges", desc := "()V" } : Jvm.MethodName)) ∈ lw_tbl := lw_at lw_m3 16 rfl
theorem q569 : (Jvm.Cond.instanceMethod ({ cls := "LoopLane", name := "findEdges", desc := "()V" } : Jvm.MethodName)) ∈ lw_all := lw_g (lw_at lw_m3 17 rfl) rfl
theorem q570 : (Jvm.Cond.code ({ cls := "LoopLane", name := "findEdges", desc := "()V" } : Jvm.MethodName) prog_1_method_7_code (4 : Nat) (Option.none : Option Jvm.ClassFile.FieldType)) ∈ lw_all := lw_g (lw_at lw_m3 18 rfl) rfl
theorem q571 : (Jvm.Cond.methodLink "LoopLane" (47 : Nat) ({ cls := "LoopLane", name := "link", desc := "(IIII)V" } : Jvm.MethodName)) ∈ lw_all := lw_g (lw_at lw_m3 19 rfl) rfl
theorem q572 : (Jvm.Cond.privateMethod ({ cls := "LoopLane", name := "link", desc := "(IIII)V" } : Jvm.MethodName)) ∈ lw_tbl := lw_at lw_m3 20 rfl
theorem q573 : (Jvm.Cond.instanceMethod ({ cls := "LoopLane", name := "link", desc := "(IIII)V" } : Jvm.MethodName)) ∈ lw_all := lw_g (lw_at lw_m3 21 rfl) rfl
theorem q574 : (Jvm.Cond.code ({ cls := "LoopLane", name := "link", desc := "(IIII)V" } : Jvm.MethodName) prog_1_method_4_code (5 : Nat) (Option.none : Option Jvm.ClassFile.FieldType)) ∈ lw_all := lw_g (lw_at lw_m3 22 rfl) rfl
theorem q575 : (Jvm.Cond.methodLink "LoopLane" (44 : Nat) ({ cls := "LoopLane$Act", name := "slot", desc := "()I" } : Jvm.MethodName)) ∈ lw_all := lw_g (lw_at lw_m3 23 rfl) rfl
theorem q588 : (Jvm.Cond.methodLink "LoopLane" (65 : Nat) ({ cls := "LoopLane", name := "linkRows", desc := "(I)V" } : Jvm.MethodName)) ∈ lw_all := lw_g (lw_at lw_m3 36 rfl) rfl
theorem q589 : (Jvm.Cond.privateMethod ({ cls := "LoopLane", name := "linkRows", desc := "(I)V" } : Jvm.MethodName)) ∈ lw_tbl := lw_at lw_m3 37 rfl
theorem q590 : (Jvm.Cond.instanceMethod ({ cls := "LoopLane", name := "linkRows", desc := "(I)V" } : Jvm.MethodName)) ∈ lw_all := lw_g (lw_at lw_m3 38 rfl) rfl
theorem q591 : (Jvm.Cond.code ({ cls := "LoopLane", name := "linkRows", desc := "(I)V" } : Jvm.MethodName) prog_1_method_5_code (4 : Nat) (Option.none : Option Jvm.ClassFile.FieldType)) ∈ lw_all := lw_g (lw_at lw_m3 39 rfl) rfl
theorem q592 : (Jvm.Cond.methodLink "LoopLane" (35 : Nat) ({ cls := "LoopLane$Act", name := "sort", desc := "()I" } : Jvm.MethodName)) ∈ lw_all := lw_g (lw_at lw_m3 40 rfl) rfl
theorem q618 : (Jvm.Cond.methodLink "LoopLane" (69 : Nat) ({ cls := "LoopLane", name := "linkStore", desc := "(I)V" } : Jvm.MethodName)) ∈ lw_all := lw_g (lw_at lw_m3 66 rfl) rfl
theorem q619 : (Jvm.Cond.privateMethod ({ cls := "LoopLane", name := "linkStore", desc := "(I)V" } : Jvm.MethodName)) ∈ lw_tbl := lw_at lw_m3 67 rfl
theorem q620 : (Jvm.Cond.instanceMethod ({ cls := "LoopLane", name := "linkStore", desc := "(I)V" } : Jvm.MethodName)) ∈ lw_all := lw_g (lw_at lw_m3 68 rfl) rfl
theorem q621 : (Jvm.Cond.code ({ cls := "LoopLane", name := "linkStore", desc := "(I)V" } : Jvm.MethodName) prog_1_method_6_code (3 : Nat) (Option.none : Option Jvm.ClassFile.FieldType)) ∈ lw_all := lw_g (lw_at lw_m3 69 rfl) rfl
theorem q622 : (Jvm.Cond.methodLink "LoopLane" (51 : Nat) ({ cls := "LoopLane$Act", name := "isRefused", desc := "()Z" } : Jvm.MethodName)) ∈ lw_all := lw_g (lw_at lw_m3 70 rfl) rfl
theorem q638 : (Jvm.Cond.instanceMethod ({ cls := "LoopLane", name := "reckon", desc := "(IIIII)I" } : Jvm.MethodName)) ∈ lw_all := lw_g (lw_at lw_m3 86 rfl) rfl
theorem q639 : (Jvm.Cond.selects "LoopLane" ({ cls := "LoopLane", name := "reckon", desc := "(IIIII)I" } : Jvm.MethodName) ({ cls := "LoopLane", name := "reckon", desc := "(IIIII)I" } : Jvm.MethodName)) ∈ lw_all := lw_g (lw_at lw_m3 87 rfl) rfl
theorem q640 : (Jvm.Cond.codeWith ({ cls := "LoopLane", name := "reckon", desc := "(IIIII)I" } : Jvm.MethodName) prog_1_method_35_code (7 : Nat) (Option.some Jvm.ClassFile.FieldType.int) [((0 : Nat), (97 : Nat), (98 : Nat), (315 : Nat))]) ∈ lw_all := lw_g (lw_at lw_m3 88 rfl) rfl
theorem q641 : (Jvm.Cond.constantLong "LoopLane" (399 : Nat) (3 : Int64)) ∈ lw_all := lw_g (lw_at lw_m3 89 rfl) rfl
theorem q642 : (Jvm.Cond.methodLink "LoopLane" (378 : Nat) ({ cls := "LoopLane", name := "isIn", desc := "(JJJ)Z" } : Jvm.MethodName)) ∈ lw_all := lw_g (lw_at lw_m3 90 rfl) rfl
theorem q643 : (Jvm.Cond.static ({ cls := "LoopLane", name := "isIn", desc := "(JJJ)Z" } : Jvm.MethodName)) ∈ lw_all := lw_g (lw_at lw_m3 91 rfl) rfl
theorem q644 : (Jvm.Cond.code ({ cls := "LoopLane", name := "isIn", desc := "(JJJ)Z" } : Jvm.MethodName) prog_1_method_3_code (6 : Nat) (Option.some Jvm.ClassFile.FieldType.boolean)) ∈ lw_all := lw_g (lw_at lw_m3 92 rfl) rfl
theorem q645 : (Jvm.Cond.methodLink "LoopLane" (263 : Nat) ({ cls := "LoopLane", name := "need", desc := "(ZI)V" } : Jvm.MethodName)) ∈ lw_all := lw_g (lw_at lw_m3 93 rfl) rfl
theorem q646 : (Jvm.Cond.privateMethod ({ cls := "LoopLane", name := "need", desc := "(ZI)V" } : Jvm.MethodName)) ∈ lw_tbl := lw_at lw_m3 94 rfl
theorem q647 : (Jvm.Cond.instanceMethod ({ cls := "LoopLane", name := "need", desc := "(ZI)V" } : Jvm.MethodName)) ∈ lw_all := lw_g (lw_at lw_m3 95 rfl) rfl
theorem q648 : (Jvm.Cond.code ({ cls := "LoopLane", name := "need", desc := "(ZI)V" } : Jvm.MethodName) prog_1_method_2_code (3 : Nat) (Option.none : Option Jvm.ClassFile.FieldType)) ∈ lw_all := lw_g (lw_at lw_m3 96 rfl) rfl
theorem q649 : (Jvm.Cond.methodLink "LoopLane" (401 : Nat) ({ cls := "LoopLane", name := "needBack", desc := "(I)V" } : Jvm.MethodName)) ∈ lw_all := lw_g (lw_at lw_m3 97 rfl) rfl
theorem q650 : (Jvm.Cond.privateMethod ({ cls := "LoopLane", name := "needBack", desc := "(I)V" } : Jvm.MethodName)) ∈ lw_tbl := lw_at lw_m3 98 rfl
theorem q651 : (Jvm.Cond.instanceMethod ({ cls := "LoopLane", name := "needBack", desc := "(I)V" } : Jvm.MethodName)) ∈ lw_all := lw_g (lw_at lw_m3 99 rfl) rfl
theorem q652 : (Jvm.Cond.code ({ cls := "LoopLane", name := "needBack", desc := "(I)V" } : Jvm.MethodName) prog_1_method_31_code (2 : Nat) (Option.none : Option Jvm.ClassFile.FieldType)) ∈ lw_all := lw_g (lw_at lw_m3 100 rfl) rfl
theorem q653 : (Jvm.Cond.constantLong "LoopLane" (382 : Nat) (4 : Int64)) ∈ lw_all := lw_g (lw_at lw_m3 101 rfl) rfl
theorem q654 : (Jvm.Cond.methodLink "LoopLane" (404 : Nat) ({ cls := "LoopLane", name := "needAct", desc := "(II)V" } : Jvm.MethodName)) ∈ lw_all := lw_g (lw_at lw_m3 102 rfl) rfl
theorem q655 : (Jvm.Cond.privateMethod ({ cls := "LoopLane", name := "needAct", desc := "(II)V" } : Jvm.MethodName)) ∈ lw_tbl := lw_at lw_m3 103 rfl
theorem q656 : (Jvm.Cond.instanceMethod ({ cls := "LoopLane", name := "needAct", desc := "(II)V" } : Jvm.MethodName)) ∈ lw_all := lw_g (lw_at lw_m3 104 rfl) rfl
theorem q657 : (Jvm.Cond.code ({ cls := "LoopLane", name := "needAct", desc := "(II)V" } : Jvm.MethodName) prog_1_method_30_code (3 : Nat) (Option.none : Option Jvm.ClassFile.FieldType)) ∈ lw_all := lw_g (lw_at lw_m3 105 rfl) rfl
theorem q658 : (Jvm.Cond.constantLong "LoopLane" (376 : Nat) (15 : Int64)) ∈ lw_all := lw_g (lw_at lw_m3 106 rfl) rfl
theorem q659 : (Jvm.Cond.methodLink "LoopLane" (408 : Nat) ({ cls := "LoopLane", name := "reckoning", desc := "(I)LLoopLane$Act;" } : Jvm.MethodName)) ∈ lw_all := lw_g (lw_at lw_m3 107 rfl) rfl
theorem q660 : (Jvm.Cond.privateMethod ({ cls := "LoopLane", name := "reckoning", desc := "(I)LLoopLane$Act;" } : Jvm.MethodName)) ∈ lw_tbl := lw_at lw_m3 108 rfl
theorem q661 : (Jvm.Cond.instanceMethod ({ cls := "LoopLane", name := "reckoning", desc := "(I)LLoopLane$Act;" } : Jvm.MethodName)) ∈ lw_all := lw_g (lw_at lw_m3 109 rfl) rfl
theorem q662 : (Jvm.Cond.code ({ cls := "LoopLane", name := "reckoning", desc := "(I)LLoopLane$Act;" } : Jvm.MethodName) prog_1_method_34_code (2 : Nat) (Option.some (Jvm.ClassFile.FieldType.object "LoopLane$Act"))) ∈ lw_all := lw_g (lw_at lw_m3 110 rfl) rfl
theorem q663 : (Jvm.Cond.methodLink "LoopLane" (412 : Nat) ({ cls := "LoopLane$Act", name := "begin", desc := "(I)V" } : Jvm.MethodName)) ∈ lw_all := lw_g (lw_at lw_m3 111 rfl) rfl
theorem q664 : (Jvm.Cond.methodLink "LoopLane" (413 : Nat) ({ cls := "LoopLane$Act", name := "take", desc := "(III)V" } : Jvm.MethodName)) ∈ lw_all := lw_g (lw_at lw_m3 112 rfl) rfl
theorem q676 : (Jvm.Cond.instanceMethod ({ cls := "LoopLane", name := "fetch", desc := "(III)I" } : Jvm.MethodName)) ∈ lw_all := lw_g (lw_at lw_m3 124 rfl) rfl
theorem q677 : (Jvm.Cond.selects "LoopLane" ({ cls := "LoopLane", name := "fetch", desc := "(III)I" } : Jvm.MethodName) ({ cls := "LoopLane", name := "fetch", desc := "(III)I" } : Jvm.MethodName)) ∈ lw_all := lw_g (lw_at lw_m3 125 rfl) rfl
theorem q678 : (Jvm.Cond.codeWith ({ cls := "LoopLane", name := "fetch", desc := "(III)I" } : Jvm.MethodName) prog_1_method_36_code (5 : Nat) (Option.some Jvm.ClassFile.FieldType.int) [((0 : Nat), (83 : Nat), (84 : Nat), (315 : Nat))]) ∈ lw_all := lw_g (lw_at lw_m3 126 rfl) rfl
theorem q679 : (Jvm.Cond.constantLong "LoopLane" (420 : Nat) (7 : Int64)) ∈ lw_all := lw_g (lw_at lw_m3 127 rfl) rfl
theorem q680 : (Jvm.Cond.methodLink "LoopLane" (422 : Nat) ({ cls := "LoopLane$Fetch", name := "begin", desc := "(I)V" } : Jvm.MethodName)) ∈ lw_all := lw_g (lw_at lw_m3 128 rfl) rfl
theorem q684 : (Jvm.Cond.methodLink "LoopLane" (425 : Nat) ({ cls := "LoopLane$Fetch", name := "take", desc := "(III)V" } : Jvm.MethodName)) ∈ lw_all := lw_g (lw_at lw_m3 132 rfl) rfl
theorem q690 : (Jvm.Cond.instanceMethod ({ cls := "LoopLane", name := "store", desc := "(IIIII)I" } : Jvm.MethodName)) ∈ lw_all := lw_g (lw_at lw_m3 138 rfl) rfl
theorem q691 : (Jvm.Cond.selects "LoopLane" ({ cls := "LoopLane", name := "store", desc := "(IIIII)I" } : Jvm.MethodName) ({ cls := "LoopLane", name := "store", desc := "(IIIII)I" } : Jvm.MethodName)) ∈ lw_all := lw_g (lw_at lw_m3 139 rfl) rfl
theorem q692 : (Jvm.Cond.codeWith ({ cls := "LoopLane", name := "store", desc := "(IIIII)I" } : Jvm.MethodName) prog_1_method_37_code (7 : Nat) (Option.some Jvm.ClassFile.FieldType.int) [((0 : Nat), (107 : Nat), (108 : Nat), (315 : Nat))]) ∈ lw_all := lw_g (lw_at lw_m3 140 rfl) rfl
theorem q694 : (Jvm.Cond.instanceMethod ({ cls := "LoopLane", name := "pick", desc := "(IIII)I" } : Jvm.MethodName)) ∈ lw_all := lw_g (lw_at lw_m3 142 rfl) rfl
theorem q695 : (Jvm.Cond.selects "LoopLane" ({ cls := "LoopLane", name := "pick", desc := "(IIII)I" } : Jvm.MethodName) ({ cls := "LoopLane", name := "pick", desc := "(IIII)I" } : Jvm.MethodName)) ∈ lw_all := lw_g (lw_at lw_m3 143 rfl) rfl
theorem q696 : (Jvm.Cond.codeWith ({ cls := "LoopLane", name := "pick", desc := "(IIII)I" } : Jvm.MethodName) prog_1_method_38_code (6 : Nat) (Option.some Jvm.ClassFile.FieldType.int) [((0 : Nat), (93 : Nat), (94 : Nat), (315 : Nat))]) ∈ lw_all := lw_g (lw_at lw_m3 144 rfl) rfl
theorem q698 : (Jvm.Cond.instanceMethod ({ cls := "LoopLane", name := "works", desc := "(IIII)I" } : Jvm.MethodName)) ∈ lw_all := lw_g (lw_at lw_m3 146 rfl) rfl
theorem q699 : (Jvm.Cond.selects "LoopLane" ({ cls := "LoopLane", name := "works", desc := "(IIII)I" } : Jvm.MethodName) ({ cls := "LoopLane", name := "works", desc := "(IIII)I" } : Jvm.MethodName)) ∈ lw_all := lw_g (lw_at lw_m3 147 rfl) rfl
theorem q700 : (Jvm.Cond.code ({ cls := "LoopLane", name := "works", desc := "(IIII)I" } : Jvm.MethodName) prog_1_method_40_code (5 : Nat) (Option.some Jvm.ClassFile.FieldType.int)) ∈ lw_all := lw_g (lw_at lw_m3 148 rfl) rfl
theorem q701 : (Jvm.Cond.methodLink "LoopLane" (426 : Nat) ({ cls := "LoopLane", name := "isAct", desc := "(I)Z" } : Jvm.MethodName)) ∈ lw_all := lw_g (lw_at lw_m3 149 rfl) rfl
theorem q702 : (Jvm.Cond.privateMethod ({ cls := "LoopLane", name := "isAct", desc := "(I)Z" } : Jvm.MethodName)) ∈ lw_tbl := lw_at lw_m3 150 rfl
theorem q703 : (Jvm.Cond.instanceMethod ({ cls := "LoopLane", name := "isAct", desc := "(I)Z" } : Jvm.MethodName)) ∈ lw_all := lw_g (lw_at lw_m3 151 rfl) rfl
theorem q704 : (Jvm.Cond.code ({ cls := "LoopLane", name := "isAct", desc := "(I)Z" } : Jvm.MethodName) prog_1_method_39_code (2 : Nat) (Option.some Jvm.ClassFile.FieldType.boolean)) ∈ lw_all := lw_g (lw_at lw_m3 152 rfl) rfl
theorem q705 : (Jvm.Cond.constantLong "LoopLane" (429 : Nat) (5 : Int64)) ∈ lw_all := lw_g (lw_at lw_m3 153 rfl) rfl
theorem q706 : (Jvm.Cond.constantLong "LoopLane" (431 : Nat) (12 : Int64)) ∈ lw_all := lw_g (lw_at lw_m3 154 rfl) rfl
theorem q707 : (Jvm.Cond.constantLong "LoopLane" (433 : Nat) (255 : Int64)) ∈ lw_all := lw_g (lw_at lw_m3 155 rfl) rfl
theorem q709 : (Jvm.Cond.instanceMethod ({ cls := "LoopLane", name := "first", desc := "(IJ)I" } : Jvm.MethodName)) ∈ lw_all := lw_g (lw_at lw_m3 157 rfl) rfl
theorem q710 : (Jvm.Cond.selects "LoopLane" ({ cls := "LoopLane", name := "first", desc := "(IJ)I" } : Jvm.MethodName) ({ cls := "LoopLane", name := "first", desc := "(IJ)I" } : Jvm.MethodName)) ∈ lw_all := lw_g (lw_at lw_m3 158 rfl) rfl
theorem q711 : (Jvm.Cond.code ({ cls := "LoopLane", name := "first", desc := "(IJ)I" } : Jvm.MethodName) prog_1_method_41_code (4 : Nat) (Option.some Jvm.ClassFile.FieldType.int)) ∈ lw_all := lw_g (lw_at lw_m3 159 rfl) rfl
theorem q713 : (Jvm.Cond.instanceMethod ({ cls := "LoopLane", name := "unit", desc := "(II)I" } : Jvm.MethodName)) ∈ lw_all := lw_g (lw_at lw_m3 161 rfl) rfl
theorem q714 : (Jvm.Cond.selects "LoopLane" ({ cls := "LoopLane", name := "unit", desc := "(II)I" } : Jvm.MethodName) ({ cls := "LoopLane", name := "unit", desc := "(II)I" } : Jvm.MethodName)) ∈ lw_all := lw_g (lw_at lw_m3 162 rfl) rfl
theorem q715 : (Jvm.Cond.code ({ cls := "LoopLane", name := "unit", desc := "(II)I" } : Jvm.MethodName) prog_1_method_42_code (4 : Nat) (Option.some Jvm.ClassFile.FieldType.int)) ∈ lw_all := lw_g (lw_at lw_m3 163 rfl) rfl
theorem q717 : (Jvm.Cond.instanceMethod ({ cls := "LoopLane", name := "edge", desc := "(IIII)I" } : Jvm.MethodName)) ∈ lw_all := lw_g (lw_at lw_m3 165 rfl) rfl
theorem q718 : (Jvm.Cond.selects "LoopLane" ({ cls := "LoopLane", name := "edge", desc := "(IIII)I" } : Jvm.MethodName) ({ cls := "LoopLane", name := "edge", desc := "(IIII)I" } : Jvm.MethodName)) ∈ lw_all := lw_g (lw_at lw_m3 166 rfl) rfl
theorem q719 : (Jvm.Cond.code ({ cls := "LoopLane", name := "edge", desc := "(IIII)I" } : Jvm.MethodName) prog_1_method_43_code (5 : Nat) (Option.some Jvm.ClassFile.FieldType.int)) ∈ lw_all := lw_g (lw_at lw_m3 167 rfl) rfl
theorem q720 : (Jvm.Cond.constantLong "LoopLane" (435 : Nat) (-50 : Int64)) ∈ lw_all := lw_g (lw_at lw_m3 168 rfl) rfl
theorem q721 : (Jvm.Cond.constantLong "LoopLane" (437 : Nat) (50 : Int64)) ∈ lw_all := lw_g (lw_at lw_m3 169 rfl) rfl
theorem q723 : (Jvm.Cond.instanceMethod ({ cls := "LoopLane", name := "undo", desc := "()I" } : Jvm.MethodName)) ∈ lw_all := lw_g (lw_at lw_m3 171 rfl) rfl
theorem q724 : (Jvm.Cond.selects "LoopLane" ({ cls := "LoopLane", name := "undo", desc := "()I" } : Jvm.MethodName) ({ cls := "LoopLane", name := "undo", desc := "()I" } : Jvm.MethodName)) ∈ lw_all := lw_g (lw_at lw_m3 172 rfl) rfl
theorem q725 : (Jvm.Cond.code ({ cls := "LoopLane", name := "undo", desc := "()I" } : Jvm.MethodName) prog_1_method_45_code (4 : Nat) (Option.some Jvm.ClassFile.FieldType.int)) ∈ lw_all := lw_g (lw_at lw_m3 173 rfl) rfl
theorem q726 : (Jvm.Cond.methodLink "LoopLane" (439 : Nat) ({ cls := "LoopLane", name := "isTaken", desc := "(I)Z" } : Jvm.MethodName)) ∈ lw_all := lw_g (lw_at lw_m3 174 rfl) rfl
theorem q727 : (Jvm.Cond.privateMethod ({ cls := "LoopLane", name := "isTaken", desc := "(I)Z" } : Jvm.MethodName)) ∈ lw_tbl := lw_at lw_m3 175 rfl
theorem q728 : (Jvm.Cond.instanceMethod ({ cls := "LoopLane", name := "isTaken", desc := "(I)Z" } : Jvm.MethodName)) ∈ lw_all := lw_g (lw_at lw_m3 176 rfl) rfl
theorem q729 : (Jvm.Cond.code ({ cls := "LoopLane", name := "isTaken", desc := "(I)Z" } : Jvm.MethodName) prog_1_method_44_code (4 : Nat) (Option.some Jvm.ClassFile.FieldType.boolean)) ∈ lw_all := lw_g (lw_at lw_m3 177 rfl) rfl
theorem q731 : (Jvm.Cond.instanceMethod ({ cls := "LoopLane", name := "act", desc := "(II)I" } : Jvm.MethodName)) ∈ lw_all := lw_g (lw_at lw_m3 179 rfl) rfl
theorem q732 : (Jvm.Cond.selects "LoopLane" ({ cls := "LoopLane", name := "act", desc := "(II)I" } : Jvm.MethodName) ({ cls := "LoopLane", name := "act", desc := "(II)I" } : Jvm.MethodName)) ∈ lw_all := lw_g (lw_at lw_m3 180 rfl) rfl
theorem q733 : (Jvm.Cond.code ({ cls := "LoopLane", name := "act", desc := "(II)I" } : Jvm.MethodName) prog_1_method_46_code (4 : Nat) (Option.some Jvm.ClassFile.FieldType.int)) ∈ lw_all := lw_g (lw_at lw_m3 181 rfl) rfl
theorem q735 : (Jvm.Cond.instanceMethod ({ cls := "LoopLane", name := "number", desc := "(I)J" } : Jvm.MethodName)) ∈ lw_all := lw_g (lw_at lw_m3 183 rfl) rfl
theorem q736 : (Jvm.Cond.selects "LoopLane" ({ cls := "LoopLane", name := "number", desc := "(I)J" } : Jvm.MethodName) ({ cls := "LoopLane", name := "number", desc := "(I)J" } : Jvm.MethodName)) ∈ lw_all := lw_g (lw_at lw_m3 184 rfl) rfl
theorem q737 : (Jvm.Cond.codeWith ({ cls := "LoopLane", name := "number", desc := "(I)J" } : Jvm.MethodName) prog_1_method_47_code (3 : Nat) (Option.some Jvm.ClassFile.FieldType.long) [((17 : Nat), (31 : Nat), (32 : Nat), (191 : Nat))]) ∈ lw_all := lw_g (lw_at lw_m3 185 rfl) rfl
theorem q738 : (Jvm.Cond.classLink "LoopLane" (191 : Nat) "java/lang/ClassCastException") ∈ lw_all := lw_g (lw_at lw_m3 186 rfl) rfl
theorem q767 : (Jvm.Cond.instanceMethod ({ cls := "LoopLane", name := "count", desc := "(I)I" } : Jvm.MethodName)) ∈ lw_all := lw_g (lw_at lw_m3 215 rfl) rfl
theorem q768 : (Jvm.Cond.selects "LoopLane" ({ cls := "LoopLane", name := "count", desc := "(I)I" } : Jvm.MethodName) ({ cls := "LoopLane", name := "count", desc := "(I)I" } : Jvm.MethodName)) ∈ lw_all := lw_g (lw_at lw_m3 216 rfl) rfl
theorem q769 : (Jvm.Cond.code ({ cls := "LoopLane", name := "count", desc := "(I)I" } : Jvm.MethodName) prog_1_method_48_code (4 : Nat) (Option.some Jvm.ClassFile.FieldType.int)) ∈ lw_all := lw_g (lw_at lw_m3 217 rfl) rfl
theorem q771 : (Jvm.Cond.instanceMethod ({ cls := "LoopLane", name := "whole", desc := "()I" } : Jvm.MethodName)) ∈ lw_all := lw_g (lw_at lw_m3 219 rfl) rfl
theorem q772 : (Jvm.Cond.selects "LoopLane" ({ cls := "LoopLane", name := "whole", desc := "()I" } : Jvm.MethodName) ({ cls := "LoopLane", name := "whole", desc := "()I" } : Jvm.MethodName)) ∈ lw_all := lw_g (lw_at lw_m3 220 rfl) rfl
theorem q773 : (Jvm.Cond.code ({ cls := "LoopLane", name := "whole", desc := "()I" } : Jvm.MethodName) prog_1_method_49_code (1 : Nat) (Option.some Jvm.ClassFile.FieldType.int)) ∈ lw_all := lw_g (lw_at lw_m3 221 rfl) rfl
theorem q774 : (Jvm.Cond.methodLink "LoopLane" (260 : Nat) ({ cls := "LoopLane", name := "isWhole", desc := "()Z" } : Jvm.MethodName)) ∈ lw_all := lw_g (lw_at lw_m3 222 rfl) rfl
theorem q775 : (Jvm.Cond.privateMethod ({ cls := "LoopLane", name := "isWhole", desc := "()Z" } : Jvm.MethodName)) ∈ lw_tbl := lw_at lw_m3 223 rfl
theorem q776 : (Jvm.Cond.instanceMethod ({ cls := "LoopLane", name := "isWhole", desc := "()Z" } : Jvm.MethodName)) ∈ lw_all := lw_g (lw_at lw_m3 224 rfl) rfl
theorem q777 : (Jvm.Cond.code ({ cls := "LoopLane", name := "isWhole", desc := "()Z" } : Jvm.MethodName) prog_1_method_18_code (3 : Nat) (Option.some Jvm.ClassFile.FieldType.boolean)) ∈ lw_all := lw_g (lw_at lw_m3 225 rfl) rfl
theorem q779 : (Jvm.Cond.instanceMethod ({ cls := "LoopLane", name := "row", desc := "(IIZ)I" } : Jvm.MethodName)) ∈ lw_all := lw_g (lw_at lw_m3 227 rfl) rfl
theorem q780 : (Jvm.Cond.selects "LoopLane" ({ cls := "LoopLane", name := "row", desc := "(IIZ)I" } : Jvm.MethodName) ({ cls := "LoopLane", name := "row", desc := "(IIZ)I" } : Jvm.MethodName)) ∈ lw_all := lw_g (lw_at lw_m3 228 rfl) rfl
theorem q781 : (Jvm.Cond.codeWith ({ cls := "LoopLane", name := "row", desc := "(IIZ)I" } : Jvm.MethodName) prog_1_method_50_code (5 : Nat) (Option.some Jvm.ClassFile.FieldType.int) [((19 : Nat), (78 : Nat), (79 : Nat), (442 : Nat)), ((19 : Nat), (78 : Nat), (88 : Nat), (315 : Nat))]) ∈ lw_all := lw_g (lw_at lw_m3 229 rfl) rfl
theorem q782 : (Jvm.Cond.classLink "LoopLane" (442 : Nat) "java/lang/NegativeArraySizeException") ∈ lw_all := lw_g (lw_at lw_m3 230 rfl) rfl
theorem q797 : (Jvm.Cond.instanceMethod ({ cls := "LoopLane", name := "empty", desc := "(I)I" } : Jvm.MethodName)) ∈ lw_all := lw_g (lw_at lw_m4 5 rfl) rfl
theorem q798 : (Jvm.Cond.selects "LoopLane" ({ cls := "LoopLane", name := "empty", desc := "(I)I" } : Jvm.MethodName) ({ cls := "LoopLane", name := "empty", desc := "(I)I" } : Jvm.MethodName)) ∈ lw_all := lw_g (lw_at lw_m4 6 rfl) rfl
theorem q799 : (Jvm.Cond.code ({ cls := "LoopLane", name := "empty", desc := "(I)I" } : Jvm.MethodName) prog_1_method_51_code (3 : Nat) (Option.some Jvm.ClassFile.FieldType.int)) ∈ lw_all := lw_g (lw_at lw_m4 7 rfl) rfl
theorem q801 : (Jvm.Cond.instanceMethod ({ cls := "LoopLane", name := "set", desc := "(IIJ)I" } : Jvm.MethodName)) ∈ lw_all := lw_g (lw_at lw_m4 9 rfl) rfl
theorem q802 : (Jvm.Cond.selects "LoopLane" ({ cls := "LoopLane", name := "set", desc := "(IIJ)I" } : Jvm.MethodName) ({ cls := "LoopLane", name := "set", desc := "(IIJ)I" } : Jvm.MethodName)) ∈ lw_all := lw_g (lw_at lw_m4 10 rfl) rfl
theorem q803 : (Jvm.Cond.codeWith ({ cls := "LoopLane", name := "set", desc := "(IIJ)I" } : Jvm.MethodName) prog_1_method_52_code (6 : Nat) (Option.some Jvm.ClassFile.FieldType.int) [((0 : Nat), (12 : Nat), (13 : Nat), (189 : Nat)), ((0 : Nat), (12 : Nat), (22 : Nat), (191 : Nat)), ((0 : Nat), (12 : Nat), (31 : Nat), (193 : Nat))]) ∈ lw_all := lw_g (lw_at lw_m4 11 rfl) rfl
theorem q804 : (Jvm.Cond.classLink "LoopLane" (189 : Nat) "java/lang/NullPointerException") ∈ lw_all := lw_g (lw_at lw_m4 12 rfl) rfl
theorem q829 : (Jvm.Cond.classLink "LoopLane" (193 : Nat) "java/lang/ArrayIndexOutOfBoundsException") ∈ lw_all := lw_g (lw_at lw_m4 37 rfl) rfl
theorem q848 : (Jvm.Cond.methodLink "LoopLane" (444 : Nat) ({ cls := "LoopLane$Lane", name := "longs", desc := "(I)[J" } : Jvm.MethodName)) ∈ lw_all := lw_g (lw_at lw_m4 56 rfl) rfl
theorem q854 : (Jvm.Cond.instanceMethod ({ cls := "LoopLane", name := "get", desc := "(II)J" } : Jvm.MethodName)) ∈ lw_all := lw_g (lw_at lw_m4 62 rfl) rfl
theorem q855 : (Jvm.Cond.selects "LoopLane" ({ cls := "LoopLane", name := "get", desc := "(II)J" } : Jvm.MethodName) ({ cls := "LoopLane", name := "get", desc := "(II)J" } : Jvm.MethodName)) ∈ lw_all := lw_g (lw_at lw_m4 63 rfl) rfl
theorem q856 : (Jvm.Cond.codeWith ({ cls := "LoopLane", name := "get", desc := "(II)J" } : Jvm.MethodName) prog_1_method_53_code (4 : Nat) (Option.some Jvm.ClassFile.FieldType.long) [((0 : Nat), (10 : Nat), (11 : Nat), (189 : Nat)), ((0 : Nat), (10 : Nat), (22 : Nat), (191 : Nat)), ((0 : Nat), (10 : Nat), (33 : Nat), (193 : Nat))]) ∈ lw_all := lw_g (lw_at lw_m4 64 rfl) rfl
theorem q858 : (Jvm.Cond.instanceMethod ({ cls := "LoopLane", name := "copy", desc := "(IIIII)I" } : Jvm.MethodName)) ∈ lw_all := lw_g (lw_at lw_m4 66 rfl) rfl
theorem q859 : (Jvm.Cond.selects "LoopLane" ({ cls := "LoopLane", name := "copy", desc := "(IIIII)I" } : Jvm.MethodName) ({ cls := "LoopLane", name := "copy", desc := "(IIIII)I" } : Jvm.MethodName)) ∈ lw_all := lw_g (lw_at lw_m4 67 rfl) rfl
theorem q860 : (Jvm.Cond.codeWith ({ cls := "LoopLane", name := "copy", desc := "(IIIII)I" } : Jvm.MethodName) prog_1_method_55_code (7 : Nat) (Option.some Jvm.ClassFile.FieldType.int) [((0 : Nat), (11 : Nat), (12 : Nat), (191 : Nat)), ((0 : Nat), (11 : Nat), (21 : Nat), (193 : Nat)), ((0 : Nat), (11 : Nat), (30 : Nat), (315 : Nat))]) ∈ lw_all := lw_g (lw_at lw_m4 68 rfl) rfl
theorem q861 : (Jvm.Cond.methodLink "LoopLane" (450 : Nat) ({ cls := "LoopLane", name := "copied", desc := "(IIIII)I" } : Jvm.MethodName)) ∈ lw_all := lw_g (lw_at lw_m4 69 rfl) rfl
theorem q862 : (Jvm.Cond.privateMethod ({ cls := "LoopLane", name := "copied", desc := "(IIIII)I" } : Jvm.MethodName)) ∈ lw_tbl := lw_at lw_m4 70 rfl
theorem q863 : (Jvm.Cond.instanceMethod ({ cls := "LoopLane", name := "copied", desc := "(IIIII)I" } : Jvm.MethodName)) ∈ lw_all := lw_g (lw_at lw_m4 71 rfl) rfl
theorem q864 : (Jvm.Cond.codeWith ({ cls := "LoopLane", name := "copied", desc := "(IIIII)I" } : Jvm.MethodName) prog_1_method_54_code (11 : Nat) (Option.some Jvm.ClassFile.FieldType.int) [((85 : Nat), (99 : Nat), (100 : Nat), (448 : Nat))]) ∈ lw_all := lw_g (lw_at lw_m4 72 rfl) rfl
theorem q865 : (Jvm.Cond.classLink "LoopLane" (448 : Nat) "java/lang/IndexOutOfBoundsException") ∈ lw_all := lw_g (lw_at lw_m4 73 rfl) rfl
theorem q866 : (Jvm.Cond.classLink "LoopLane" (279 : Nat) "[J") ∈ lw_all := lw_g (lw_at lw_m4 74 rfl) rfl
theorem q867 : (Jvm.Cond.methodLink "LoopLane" (280 : Nat) ({ cls := "java/lang/System", name := "arraycopy", desc := "(Ljava/lang/Object;ILjava/lang/Object;II)V" } : Jvm.MethodName)) ∈ lw_all := lw_g (lw_at lw_m4 75 rfl) rfl
theorem q871 : (Jvm.Cond.instanceMethod ({ cls := "LoopLane", name := "lowest", desc := "()I" } : Jvm.MethodName)) ∈ lw_all := lw_g (lw_at lw_m4 79 rfl) rfl
theorem q872 : (Jvm.Cond.selects "LoopLane" ({ cls := "LoopLane", name := "lowest", desc := "()I" } : Jvm.MethodName) ({ cls := "LoopLane", name := "lowest", desc := "()I" } : Jvm.MethodName)) ∈ lw_all := lw_g (lw_at lw_m4 80 rfl) rfl
theorem q873 : (Jvm.Cond.code ({ cls := "LoopLane", name := "lowest", desc := "()I" } : Jvm.MethodName) prog_1_method_56_code (2 : Nat) (Option.some Jvm.ClassFile.FieldType.int)) ∈ lw_all := lw_g (lw_at lw_m4 81 rfl) rfl
theorem q874 : (Jvm.Cond.methodLink "LoopLane" (454 : Nat) ({ cls := "LoopLane", name := "lowestBeat", desc := "()I" } : Jvm.MethodName)) ∈ lw_all := lw_g (lw_at lw_m4 82 rfl) rfl
theorem q875 : (Jvm.Cond.privateMethod ({ cls := "LoopLane", name := "lowestBeat", desc := "()I" } : Jvm.MethodName)) ∈ lw_tbl := lw_at lw_m4 83 rfl
theorem q876 : (Jvm.Cond.instanceMethod ({ cls := "LoopLane", name := "lowestBeat", desc := "()I" } : Jvm.MethodName)) ∈ lw_all := lw_g (lw_at lw_m4 84 rfl) rfl
theorem q877 : (Jvm.Cond.code ({ cls := "LoopLane", name := "lowestBeat", desc := "()I" } : Jvm.MethodName) prog_1_method_11_code (2 : Nat) (Option.some Jvm.ClassFile.FieldType.int)) ∈ lw_all := lw_g (lw_at lw_m4 85 rfl) rfl
theorem q878 : (Jvm.Cond.methodLink "LoopLane" (118 : Nat) ({ cls := "LoopLane", name := "hasUnits", desc := "(I)Z" } : Jvm.MethodName)) ∈ lw_all := lw_g (lw_at lw_m4 86 rfl) rfl
theorem q879 : (Jvm.Cond.privateMethod ({ cls := "LoopLane", name := "hasUnits", desc := "(I)Z" } : Jvm.MethodName)) ∈ lw_tbl := lw_at lw_m4 87 rfl
theorem q880 : (Jvm.Cond.instanceMethod ({ cls := "LoopLane", name := "hasUnits", desc := "(I)Z" } : Jvm.MethodName)) ∈ lw_all := lw_g (lw_at lw_m4 88 rfl) rfl
theorem q881 : (Jvm.Cond.code ({ cls := "LoopLane", name := "hasUnits", desc := "(I)Z" } : Jvm.MethodName) prog_1_method_10_code (5 : Nat) (Option.some Jvm.ClassFile.FieldType.boolean)) ∈ lw_all := lw_g (lw_at lw_m4 89 rfl) rfl
theorem q882 : (Jvm.Cond.methodLink "LoopLane" (112 : Nat) ({ cls := "LoopLane$Act", name := "bits", desc := "()I" } : Jvm.MethodName)) ∈ lw_all := lw_g (lw_at lw_m4 90 rfl) rfl
theorem q899 : (Jvm.Cond.methodLink "LoopLane" (122 : Nat) ({ cls := "LoopLane", name := "findWays", desc := "(IIZ)Z" } : Jvm.MethodName)) ∈ lw_all := lw_g (lw_at lw_m4 107 rfl) rfl
theorem q900 : (Jvm.Cond.privateMethod ({ cls := "LoopLane", name := "findWays", desc := "(IIZ)Z" } : Jvm.MethodName)) ∈ lw_tbl := lw_at lw_m4 108 rfl
theorem q901 : (Jvm.Cond.instanceMethod ({ cls := "LoopLane", name := "findWays", desc := "(IIZ)Z" } : Jvm.MethodName)) ∈ lw_all := lw_g (lw_at lw_m4 109 rfl) rfl
theorem q902 : (Jvm.Cond.code ({ cls := "LoopLane", name := "findWays", desc := "(IIZ)Z" } : Jvm.MethodName) prog_1_method_9_code (8 : Nat) (Option.some Jvm.ClassFile.FieldType.boolean)) ∈ lw_all := lw_g (lw_at lw_m4 110 rfl) rfl
theorem q903 : (Jvm.Cond.constant "LoopLane" (99 : Nat) (-1000000 : Int32)) ∈ lw_all := lw_g (lw_at lw_m4 111 rfl) rfl
theorem q904 : (Jvm.Cond.methodLink "LoopLane" (103 : Nat) ({ cls := "LoopLane", name := "roundedUp", desc := "(II)I" } : Jvm.MethodName)) ∈ lw_all := lw_g (lw_at lw_m4 112 rfl) rfl
theorem q905 : (Jvm.Cond.static ({ cls := "LoopLane", name := "roundedUp", desc := "(II)I" } : Jvm.MethodName)) ∈ lw_all := lw_g (lw_at lw_m4 113 rfl) rfl
theorem q906 : (Jvm.Cond.code ({ cls := "LoopLane", name := "roundedUp", desc := "(II)I" } : Jvm.MethodName) prog_1_method_8_code (2 : Nat) (Option.some Jvm.ClassFile.FieldType.int)) ∈ lw_all := lw_g (lw_at lw_m4 114 rfl) rfl
theorem q907 : (Jvm.Cond.methodLink "LoopLane" (90 : Nat) ({ cls := "java/lang/Math", name := "floorDiv", desc := "(II)I" } : Jvm.MethodName)) ∈ lw_all := lw_g (lw_at lw_m4 115 rfl) rfl
theorem q910 : (Jvm.Cond.methodLink "LoopLane" (106 : Nat) ({ cls := "java/lang/Math", name := "max", desc := "(II)I" } : Jvm.MethodName)) ∈ lw_all := lw_g (lw_at lw_m4 118 rfl) rfl
theorem q914 : (Jvm.Cond.instanceMethod ({ cls := "LoopLane", name := "lay", desc := "()I" } : Jvm.MethodName)) ∈ lw_all := lw_g (lw_at lw_m4 122 rfl) rfl
theorem q915 : (Jvm.Cond.selects "LoopLane" ({ cls := "LoopLane", name := "lay", desc := "()I" } : Jvm.MethodName) ({ cls := "LoopLane", name := "lay", desc := "()I" } : Jvm.MethodName)) ∈ lw_all := lw_g (lw_at lw_m4 123 rfl) rfl
theorem q916 : (Jvm.Cond.codeWith ({ cls := "LoopLane", name := "lay", desc := "()I" } : Jvm.MethodName) prog_1_method_59_code (2 : Nat) (Option.some Jvm.ClassFile.FieldType.int) [((5 : Nat), (9 : Nat), (10 : Nat), (315 : Nat))]) ∈ lw_all := lw_g (lw_at lw_m4 124 rfl) rfl
theorem q917 : (Jvm.Cond.methodLink "LoopLane" (462 : Nat) ({ cls := "LoopLane", name := "layOut", desc := "()I" } : Jvm.MethodName)) ∈ lw_all := lw_g (lw_at lw_m4 125 rfl) rfl
theorem q918 : (Jvm.Cond.privateMethod ({ cls := "LoopLane", name := "layOut", desc := "()I" } : Jvm.MethodName)) ∈ lw_tbl := lw_at lw_m4 126 rfl
theorem q919 : (Jvm.Cond.instanceMethod ({ cls := "LoopLane", name := "layOut", desc := "()I" } : Jvm.MethodName)) ∈ lw_all := lw_g (lw_at lw_m4 127 rfl) rfl
theorem q920 : (Jvm.Cond.code ({ cls := "LoopLane", name := "layOut", desc := "()I" } : Jvm.MethodName) prog_1_method_58_code (3 : Nat) (Option.some Jvm.ClassFile.FieldType.int)) ∈ lw_all := lw_g (lw_at lw_m4 128 rfl) rfl
theorem q921 : (Jvm.Cond.methodLink "LoopLane" (457 : Nat) ({ cls := "LoopLane", name := "search", desc := "(I)Z" } : Jvm.MethodName)) ∈ lw_all := lw_g (lw_at lw_m4 129 rfl) rfl
theorem q922 : (Jvm.Cond.privateMethod ({ cls := "LoopLane", name := "search", desc := "(I)Z" } : Jvm.MethodName)) ∈ lw_tbl := lw_at lw_m4 130 rfl
theorem q923 : (Jvm.Cond.instanceMethod ({ cls := "LoopLane", name := "search", desc := "(I)Z" } : Jvm.MethodName)) ∈ lw_all := lw_g (lw_at lw_m4 131 rfl) rfl
theorem q924 : (Jvm.Cond.code ({ cls := "LoopLane", name := "search", desc := "(I)Z" } : Jvm.MethodName) prog_1_method_14_code (6 : Nat) (Option.some Jvm.ClassFile.FieldType.boolean)) ∈ lw_all := lw_g (lw_at lw_m4 132 rfl) rfl
theorem q925 : (Jvm.Cond.methodLink "LoopLane" (146 : Nat) ({ cls := "LoopLane", name := "place", desc := "(I)Z" } : Jvm.MethodName)) ∈ lw_all := lw_g (lw_at lw_m4 133 rfl) rfl
theorem q926 : (Jvm.Cond.privateMethod ({ cls := "LoopLane", name := "place", desc := "(I)Z" } : Jvm.MethodName)) ∈ lw_tbl := lw_at lw_m4 134 rfl
theorem q927 : (Jvm.Cond.instanceMethod ({ cls := "LoopLane", name := "place", desc := "(I)Z" } : Jvm.MethodName)) ∈ lw_all := lw_g (lw_at lw_m4 135 rfl) rfl
theorem q928 : (Jvm.Cond.code ({ cls := "LoopLane", name := "place", desc := "(I)Z" } : Jvm.MethodName) prog_1_method_13_code (4 : Nat) (Option.some Jvm.ClassFile.FieldType.boolean)) ∈ lw_all := lw_g (lw_at lw_m4 136 rfl) rfl
theorem q929 : (Jvm.Cond.methodLink "LoopLane" (142 : Nat) ({ cls := "LoopLane", name := "fill", desc := "(II)Z" } : Jvm.MethodName)) ∈ lw_all := lw_g (lw_at lw_m4 137 rfl) rfl
theorem q930 : (Jvm.Cond.privateMethod ({ cls := "LoopLane", name := "fill", desc := "(II)Z" } : Jvm.MethodName)) ∈ lw_tbl := lw_at lw_m4 138 rfl
theorem q931 : (Jvm.Cond.instanceMethod ({ cls := "LoopLane", name := "fill", desc := "(II)Z" } : Jvm.MethodName)) ∈ lw_all := lw_g (lw_at lw_m4 139 rfl) rfl
theorem q932 : (Jvm.Cond.code ({ cls := "LoopLane", name := "fill", desc := "(II)Z" } : Jvm.MethodName) prog_1_method_12_code (7 : Nat) (Option.some Jvm.ClassFile.FieldType.boolean)) ∈ lw_all := lw_g (lw_at lw_m4 140 rfl) rfl
theorem q933 : (Jvm.Cond.methodLink "LoopLane" (460 : Nat) ({ cls := "LoopLane", name := "take", desc := "(I)V" } : Jvm.MethodName)) ∈ lw_all := lw_g (lw_at lw_m4 141 rfl) rfl
theorem q934 : (Jvm.Cond.privateMethod ({ cls := "LoopLane", name := "take", desc := "(I)V" } : Jvm.MethodName)) ∈ lw_tbl := lw_at lw_m4 142 rfl
theorem q935 : (Jvm.Cond.instanceMethod ({ cls := "LoopLane", name := "take", desc := "(I)V" } : Jvm.MethodName)) ∈ lw_all := lw_g (lw_at lw_m4 143 rfl) rfl
theorem q936 : (Jvm.Cond.code ({ cls := "LoopLane", name := "take", desc := "(I)V" } : Jvm.MethodName) prog_1_method_57_code (3 : Nat) (Option.none : Option Jvm.ClassFile.FieldType)) ∈ lw_all := lw_g (lw_at lw_m4 144 rfl) rfl
theorem q937 : (Jvm.Cond.methodLink "LoopLane" (241 : Nat) ({ cls := "LoopLane", name := "begin", desc := "(I)I" } : Jvm.MethodName)) ∈ lw_all := lw_g (lw_at lw_m4 145 rfl) rfl
theorem q938 : (Jvm.Cond.privateMethod ({ cls := "LoopLane", name := "begin", desc := "(I)I" } : Jvm.MethodName)) ∈ lw_tbl := lw_at lw_m4 146 rfl
theorem q939 : (Jvm.Cond.instanceMethod ({ cls := "LoopLane", name := "begin", desc := "(I)I" } : Jvm.MethodName)) ∈ lw_all := lw_g (lw_at lw_m4 147 rfl) rfl
theorem q940 : (Jvm.Cond.code ({ cls := "LoopLane", name := "begin", desc := "(I)I" } : Jvm.MethodName) prog_1_method_15_code (2 : Nat) (Option.some Jvm.ClassFile.FieldType.int)) ∈ lw_all := lw_g (lw_at lw_m4 148 rfl) rfl
theorem q942 : (Jvm.Cond.instanceMethod ({ cls := "LoopLane", name := "prove", desc := "(I)I" } : Jvm.MethodName)) ∈ lw_all := lw_g (lw_at lw_m4 150 rfl) rfl
theorem q943 : (Jvm.Cond.selects "LoopLane" ({ cls := "LoopLane", name := "prove", desc := "(I)I" } : Jvm.MethodName) ({ cls := "LoopLane", name := "prove", desc := "(I)I" } : Jvm.MethodName)) ∈ lw_all := lw_g (lw_at lw_m4 151 rfl) rfl
theorem q944 : (Jvm.Cond.code ({ cls := "LoopLane", name := "prove", desc := "(I)I" } : Jvm.MethodName) prog_1_method_60_code (2 : Nat) (Option.some Jvm.ClassFile.FieldType.int)) ∈ lw_all := lw_g (lw_at lw_m4 152 rfl) rfl
theorem q946 : (Jvm.Cond.instanceMethod ({ cls := "LoopLane", name := "trials", desc := "()I" } : Jvm.MethodName)) ∈ lw_all := lw_g (lw_at lw_m4 154 rfl) rfl
theorem q947 : (Jvm.Cond.selects "LoopLane" ({ cls := "LoopLane", name := "trials", desc := "()I" } : Jvm.MethodName) ({ cls := "LoopLane", name := "trials", desc := "()I" } : Jvm.MethodName)) ∈ lw_all := lw_g (lw_at lw_m4 155 rfl) rfl
theorem q948 : (Jvm.Cond.code ({ cls := "LoopLane", name := "trials", desc := "()I" } : Jvm.MethodName) prog_1_method_61_code (1 : Nat) (Option.some Jvm.ClassFile.FieldType.int)) ∈ lw_all := lw_g (lw_at lw_m4 156 rfl) rfl
theorem q950 : (Jvm.Cond.instanceMethod ({ cls := "LoopLane", name := "laying", desc := "(I)I" } : Jvm.MethodName)) ∈ lw_all := lw_g (lw_at lw_m4 158 rfl) rfl
theorem q951 : (Jvm.Cond.selects "LoopLane" ({ cls := "LoopLane", name := "laying", desc := "(I)I" } : Jvm.MethodName) ({ cls := "LoopLane", name := "laying", desc := "(I)I" } : Jvm.MethodName)) ∈ lw_all := lw_g (lw_at lw_m4 159 rfl) rfl
theorem q952 : (Jvm.Cond.code ({ cls := "LoopLane", name := "laying", desc := "(I)I" } : Jvm.MethodName) prog_1_method_62_code (4 : Nat) (Option.some Jvm.ClassFile.FieldType.int)) ∈ lw_all := lw_g (lw_at lw_m4 160 rfl) rfl
theorem q953 : (Jvm.Cond.methodLink "LoopLane" (247 : Nat) ({ cls := "LoopLane", name := "mostStages", desc := "()I" } : Jvm.MethodName)) ∈ lw_all := lw_g (lw_at lw_m4 161 rfl) rfl
theorem q954 : (Jvm.Cond.privateMethod ({ cls := "LoopLane", name := "mostStages", desc := "()I" } : Jvm.MethodName)) ∈ lw_tbl := lw_at lw_m4 162 rfl
theorem q955 : (Jvm.Cond.instanceMethod ({ cls := "LoopLane", name := "mostStages", desc := "()I" } : Jvm.MethodName)) ∈ lw_all := lw_g (lw_at lw_m4 163 rfl) rfl
theorem q956 : (Jvm.Cond.code ({ cls := "LoopLane", name := "mostStages", desc := "()I" } : Jvm.MethodName) prog_1_method_16_code (3 : Nat) (Option.some Jvm.ClassFile.FieldType.int)) ∈ lw_all := lw_g (lw_at lw_m4 164 rfl) rfl
theorem q958 : (Jvm.Cond.instanceMethod ({ cls := "LoopLane", name := "tick", desc := "(II)I" } : Jvm.MethodName)) ∈ lw_all := lw_g (lw_at lw_m4 166 rfl) rfl
theorem q959 : (Jvm.Cond.selects "LoopLane" ({ cls := "LoopLane", name := "tick", desc := "(II)I" } : Jvm.MethodName) ({ cls := "LoopLane", name := "tick", desc := "(II)I" } : Jvm.MethodName)) ∈ lw_all := lw_g (lw_at lw_m4 167 rfl) rfl
theorem q960 : (Jvm.Cond.code ({ cls := "LoopLane", name := "tick", desc := "(II)I" } : Jvm.MethodName) prog_1_method_65_code (4 : Nat) (Option.some Jvm.ClassFile.FieldType.int)) ∈ lw_all := lw_g (lw_at lw_m4 168 rfl) rfl
theorem q961 : (Jvm.Cond.methodLink "LoopLane" (465 : Nat) ({ cls := "LoopLane", name := "earliest", desc := "(I)I" } : Jvm.MethodName)) ∈ lw_all := lw_g (lw_at lw_m4 169 rfl) rfl
theorem q962 : (Jvm.Cond.privateMethod ({ cls := "LoopLane", name := "earliest", desc := "(I)I" } : Jvm.MethodName)) ∈ lw_tbl := lw_at lw_m4 170 rfl
theorem q963 : (Jvm.Cond.instanceMethod ({ cls := "LoopLane", name := "earliest", desc := "(I)I" } : Jvm.MethodName)) ∈ lw_all := lw_g (lw_at lw_m4 171 rfl) rfl
theorem q964 : (Jvm.Cond.code ({ cls := "LoopLane", name := "earliest", desc := "(I)I" } : Jvm.MethodName) prog_1_method_63_code (4 : Nat) (Option.some Jvm.ClassFile.FieldType.int)) ∈ lw_all := lw_g (lw_at lw_m4 172 rfl) rfl
theorem q965 : (Jvm.Cond.methodLink "LoopLane" (471 : Nat) ({ cls := "LoopLane", name := "latest", desc := "(I)I" } : Jvm.MethodName)) ∈ lw_all := lw_g (lw_at lw_m4 173 rfl) rfl
theorem q966 : (Jvm.Cond.privateMethod ({ cls := "LoopLane", name := "latest", desc := "(I)I" } : Jvm.MethodName)) ∈ lw_tbl := lw_at lw_m4 174 rfl
theorem q967 : (Jvm.Cond.instanceMethod ({ cls := "LoopLane", name := "latest", desc := "(I)I" } : Jvm.MethodName)) ∈ lw_all := lw_g (lw_at lw_m4 175 rfl) rfl
theorem q968 : (Jvm.Cond.code ({ cls := "LoopLane", name := "latest", desc := "(I)I" } : Jvm.MethodName) prog_1_method_64_code (5 : Nat) (Option.some Jvm.ClassFile.FieldType.int)) ∈ lw_all := lw_g (lw_at lw_m4 176 rfl) rfl
theorem q969 : (Jvm.Cond.methodLink "LoopLane" (468 : Nat) ({ cls := "java/lang/Math", name := "min", desc := "(II)I" } : Jvm.MethodName)) ∈ lw_all := lw_g (lw_at lw_m4 177 rfl) rfl
theorem q973 : (Jvm.Cond.instanceMethod ({ cls := "LoopLane", name := "filled", desc := "(II)I" } : Jvm.MethodName)) ∈ lw_all := lw_g (lw_at lw_m4 181 rfl) rfl
theorem q974 : (Jvm.Cond.selects "LoopLane" ({ cls := "LoopLane", name := "filled", desc := "(II)I" } : Jvm.MethodName) ({ cls := "LoopLane", name := "filled", desc := "(II)I" } : Jvm.MethodName)) ∈ lw_all := lw_g (lw_at lw_m4 182 rfl) rfl
theorem q975 : (Jvm.Cond.code ({ cls := "LoopLane", name := "filled", desc := "(II)I" } : Jvm.MethodName) prog_1_method_67_code (3 : Nat) (Option.some Jvm.ClassFile.FieldType.int)) ∈ lw_all := lw_g (lw_at lw_m4 183 rfl) rfl
theorem q976 : (Jvm.Cond.methodLink "LoopLane" (473 : Nat) ({ cls := "LoopLane", name := "filledAt", desc := "(IIZ)I" } : Jvm.MethodName)) ∈ lw_all := lw_g (lw_at lw_m4 184 rfl) rfl
theorem q977 : (Jvm.Cond.privateMethod ({ cls := "LoopLane", name := "filledAt", desc := "(IIZ)I" } : Jvm.MethodName)) ∈ lw_tbl := lw_at lw_m4 185 rfl
theorem q978 : (Jvm.Cond.instanceMethod ({ cls := "LoopLane", name := "filledAt", desc := "(IIZ)I" } : Jvm.MethodName)) ∈ lw_all := lw_g (lw_at lw_m4 186 rfl) rfl
theorem q979 : (Jvm.Cond.code ({ cls := "LoopLane", name := "filledAt", desc := "(IIZ)I" } : Jvm.MethodName) prog_1_method_66_code (8 : Nat) (Option.some Jvm.ClassFile.FieldType.int)) ∈ lw_all := lw_g (lw_at lw_m4 187 rfl) rfl
theorem q981 : (Jvm.Cond.instanceMethod ({ cls := "LoopLane", name := "names", desc := "(I)I" } : Jvm.MethodName)) ∈ lw_all := lw_g (lw_at lw_m4 189 rfl) rfl
theorem q982 : (Jvm.Cond.selects "LoopLane" ({ cls := "LoopLane", name := "names", desc := "(I)I" } : Jvm.MethodName) ({ cls := "LoopLane", name := "names", desc := "(I)I" } : Jvm.MethodName)) ∈ lw_all := lw_g (lw_at lw_m4 190 rfl) rfl
theorem q983 : (Jvm.Cond.code ({ cls := "LoopLane", name := "names", desc := "(I)I" } : Jvm.MethodName) prog_1_method_69_code (2 : Nat) (Option.some Jvm.ClassFile.FieldType.int)) ∈ lw_all := lw_g (lw_at lw_m4 191 rfl) rfl
theorem q984 : (Jvm.Cond.methodLink "LoopLane" (234 : Nat) ({ cls := "LoopLane", name := "namesOf", desc := "(I)I" } : Jvm.MethodName)) ∈ lw_all := lw_g (lw_at lw_m4 192 rfl) rfl
theorem q985 : (Jvm.Cond.privateMethod ({ cls := "LoopLane", name := "namesOf", desc := "(I)I" } : Jvm.MethodName)) ∈ lw_tbl := lw_at lw_m4 193 rfl
theorem q986 : (Jvm.Cond.instanceMethod ({ cls := "LoopLane", name := "namesOf", desc := "(I)I" } : Jvm.MethodName)) ∈ lw_all := lw_g (lw_at lw_m4 194 rfl) rfl
theorem q987 : (Jvm.Cond.code ({ cls := "LoopLane", name := "namesOf", desc := "(I)I" } : Jvm.MethodName) prog_1_method_68_code (5 : Nat) (Option.some Jvm.ClassFile.FieldType.int)) ∈ lw_all := lw_g (lw_at lw_m4 195 rfl) rfl
theorem q989 : (Jvm.Cond.instanceMethod ({ cls := "LoopLane", name := "fewest", desc := "(I)I" } : Jvm.MethodName)) ∈ lw_all := lw_g (lw_at lw_m4 197 rfl) rfl
theorem q990 : (Jvm.Cond.selects "LoopLane" ({ cls := "LoopLane", name := "fewest", desc := "(I)I" } : Jvm.MethodName) ({ cls := "LoopLane", name := "fewest", desc := "(I)I" } : Jvm.MethodName)) ∈ lw_all := lw_g (lw_at lw_m4 198 rfl) rfl
theorem q991 : (Jvm.Cond.code ({ cls := "LoopLane", name := "fewest", desc := "(I)I" } : Jvm.MethodName) prog_1_method_70_code (5 : Nat) (Option.some Jvm.ClassFile.FieldType.int)) ∈ lw_all := lw_g (lw_at lw_m4 199 rfl) rfl
theorem q993 : (Jvm.Cond.instanceMethod ({ cls := "LoopLane", name := "forge", desc := "(II)I" } : Jvm.MethodName)) ∈ lw_all := lw_g (lw_at lw_m4 201 rfl) rfl
theorem q994 : (Jvm.Cond.selects "LoopLane" ({ cls := "LoopLane", name := "forge", desc := "(II)I" } : Jvm.MethodName) ({ cls := "LoopLane", name := "forge", desc := "(II)I" } : Jvm.MethodName)) ∈ lw_all := lw_g (lw_at lw_m4 202 rfl) rfl
theorem q995 : (Jvm.Cond.code ({ cls := "LoopLane", name := "forge", desc := "(II)I" } : Jvm.MethodName) prog_1_method_71_code (4 : Nat) (Option.some Jvm.ClassFile.FieldType.int)) ∈ lw_all := lw_g (lw_at lw_m4 203 rfl) rfl
theorem q997 : (Jvm.Cond.instanceMethod ({ cls := "LoopLane", name := "check", desc := "()I" } : Jvm.MethodName)) ∈ lw_all := lw_g (lw_at lw_m4 205 rfl) rfl
theorem q998 : (Jvm.Cond.selects "LoopLane" ({ cls := "LoopLane", name := "check", desc := "()I" } : Jvm.MethodName) ({ cls := "LoopLane", name := "check", desc := "()I" } : Jvm.MethodName)) ∈ lw_all := lw_g (lw_at lw_m4 206 rfl) rfl
theorem q999 : (Jvm.Cond.code ({ cls := "LoopLane", name := "check", desc := "()I" } : Jvm.MethodName) prog_1_method_73_code (4 : Nat) (Option.some Jvm.ClassFile.FieldType.int)) ∈ lw_all := lw_g (lw_at lw_m4 207 rfl) rfl
theorem q1000 : (Jvm.Cond.methodLink "LoopLane" (477 : Nat) ({ cls := "LoopLane", name := "isAhead", desc := "(II)Z" } : Jvm.MethodName)) ∈ lw_all := lw_g (lw_at lw_m4 208 rfl) rfl
theorem q1001 : (Jvm.Cond.privateMethod ({ cls := "LoopLane", name := "isAhead", desc := "(II)Z" } : Jvm.MethodName)) ∈ lw_tbl := lw_at lw_m4 209 rfl
theorem q1002 : (Jvm.Cond.instanceMethod ({ cls := "LoopLane", name := "isAhead", desc := "(II)Z" } : Jvm.MethodName)) ∈ lw_all := lw_g (lw_at lw_m4 210 rfl) rfl
theorem q1003 : (Jvm.Cond.code ({ cls := "LoopLane", name := "isAhead", desc := "(II)Z" } : Jvm.MethodName) prog_1_method_72_code (3 : Nat) (Option.some Jvm.ClassFile.FieldType.boolean)) ∈ lw_all := lw_g (lw_at lw_m4 211 rfl) rfl
theorem q1005 : (Jvm.Cond.instanceMethod ({ cls := "LoopLane", name := "wrong", desc := "(I)I" } : Jvm.MethodName)) ∈ lw_all := lw_g (lw_at lw_m4 213 rfl) rfl
theorem q1006 : (Jvm.Cond.selects "LoopLane" ({ cls := "LoopLane", name := "wrong", desc := "(I)I" } : Jvm.MethodName) ({ cls := "LoopLane", name := "wrong", desc := "(I)I" } : Jvm.MethodName)) ∈ lw_all := lw_g (lw_at lw_m4 214 rfl) rfl
theorem q1007 : (Jvm.Cond.code ({ cls := "LoopLane", name := "wrong", desc := "(I)I" } : Jvm.MethodName) prog_1_method_74_code (2 : Nat) (Option.some Jvm.ClassFile.FieldType.int)) ∈ lw_all := lw_g (lw_at lw_m4 215 rfl) rfl
theorem q1009 : (Jvm.Cond.instanceMethod ({ cls := "LoopLane", name := "run", desc := "(IZ)I" } : Jvm.MethodName)) ∈ lw_all := lw_g (lw_at lw_m4 217 rfl) rfl
theorem q1010 : (Jvm.Cond.selects "LoopLane" ({ cls := "LoopLane", name := "run", desc := "(IZ)I" } : Jvm.MethodName) ({ cls := "LoopLane", name := "run", desc := "(IZ)I" } : Jvm.MethodName)) ∈ lw_all := lw_g (lw_at lw_m4 218 rfl) rfl
theorem q1011 : (Jvm.Cond.codeWith ({ cls := "LoopLane", name := "run", desc := "(IZ)I" } : Jvm.MethodName) prog_1_method_75_code (4 : Nat) (Option.some Jvm.ClassFile.FieldType.int) [((0 : Nat), (23 : Nat), (24 : Nat), (315 : Nat))]) ∈ lw_all := lw_g (lw_at lw_m4 219 rfl) rfl
theorem q1012 : (Jvm.Cond.methodLink "LoopLane" (480 : Nat) ({ cls := "LoopLane", name := "needRun", desc := "(IZ)V" } : Jvm.MethodName)) ∈ lw_all := lw_g (lw_at lw_m4 220 rfl) rfl
theorem q1013 : (Jvm.Cond.privateMethod ({ cls := "LoopLane", name := "needRun", desc := "(IZ)V" } : Jvm.MethodName)) ∈ lw_tbl := lw_at lw_m4 221 rfl
theorem q1014 : (Jvm.Cond.instanceMethod ({ cls := "LoopLane", name := "needRun", desc := "(IZ)V" } : Jvm.MethodName)) ∈ lw_all := lw_g (lw_at lw_m4 222 rfl) rfl
theorem q1015 : (Jvm.Cond.code ({ cls := "LoopLane", name := "needRun", desc := "(IZ)V" } : Jvm.MethodName) prog_1_method_25_code (3 : Nat) (Option.none : Option Jvm.ClassFile.FieldType)) ∈ lw_all := lw_g (lw_at lw_m4 223 rfl) rfl
theorem q1016 : (Jvm.Cond.methodLink "LoopLane" (296 : Nat) ({ cls := "LoopLane", name := "run", desc := "(LLoopLane$Result;IZ)V" } : Jvm.MethodName)) ∈ lw_all := lw_g (lw_at lw_m4 224 rfl) rfl
theorem q1017 : (Jvm.Cond.privateMethod ({ cls := "LoopLane", name := "run", desc := "(LLoopLane$Result;IZ)V" } : Jvm.MethodName)) ∈ lw_tbl := lw_at lw_m4 225 rfl
theorem q1018 : (Jvm.Cond.instanceMethod ({ cls := "LoopLane", name := "run", desc := "(LLoopLane$Result;IZ)V" } : Jvm.MethodName)) ∈ lw_all := lw_g (lw_at lw_m4 226 rfl) rfl
theorem q1019 : (Jvm.Cond.code ({ cls := "LoopLane", name := "run", desc := "(LLoopLane$Result;IZ)V" } : Jvm.MethodName) prog_1_method_24_code (5 : Nat) (Option.none : Option Jvm.ClassFile.FieldType)) ∈ lw_all := lw_g (lw_at lw_m4 227 rfl) rfl
theorem q1020 : (Jvm.Cond.methodLink "LoopLane" (250 : Nat) ({ cls := "LoopLane", name := "runLaid", desc := "(LLoopLane$Result;I)V" } : Jvm.MethodName)) ∈ lw_all := lw_g (lw_at lw_m4 228 rfl) rfl
theorem q1021 : (Jvm.Cond.privateMethod ({ cls := "LoopLane", name := "runLaid", desc := "(LLoopLane$Result;I)V" } : Jvm.MethodName)) ∈ lw_tbl := lw_at lw_m4 229 rfl
theorem q1022 : (Jvm.Cond.instanceMethod ({ cls := "LoopLane", name := "runLaid", desc := "(LLoopLane$Result;I)V" } : Jvm.MethodName)) ∈ lw_all := lw_g (lw_at lw_m4 230 rfl) rfl
theorem q1023 : (Jvm.Cond.code ({ cls := "LoopLane", name := "runLaid", desc := "(LLoopLane$Result;I)V" } : Jvm.MethodName) prog_1_method_23_code (10 : Nat) (Option.none : Option Jvm.ClassFile.FieldType)) ∈ lw_all := lw_g (lw_at lw_m4 231 rfl) rfl
theorem q1024 : (Jvm.Cond.methodLink "LoopLane" (244 : Nat) ({ cls := "LoopLane", name := "named", desc := "(LLoopLane$Act;II)J" } : Jvm.MethodName)) ∈ lw_all := lw_g (lw_at lw_m4 232 rfl) rfl
theorem q1025 : (Jvm.Cond.privateMethod ({ cls := "LoopLane", name := "named", desc := "(LLoopLane$Act;II)J" } : Jvm.MethodName)) ∈ lw_tbl := lw_at lw_m4 233 rfl
theorem q1026 : (Jvm.Cond.instanceMethod ({ cls := "LoopLane", name := "named", desc := "(LLoopLane$Act;II)J" } : Jvm.MethodName)) ∈ lw_all := lw_g (lw_at lw_m4 234 rfl) rfl
theorem q1027 : (Jvm.Cond.code ({ cls := "LoopLane", name := "named", desc := "(LLoopLane$Act;II)J" } : Jvm.MethodName) prog_1_method_22_code (6 : Nat) (Option.some Jvm.ClassFile.FieldType.long)) ∈ lw_all := lw_g (lw_at lw_m4 235 rfl) rfl
theorem q1028 : (Jvm.Cond.methodLink "LoopLane" (210 : Nat) ({ cls := "LoopLane", name := "work", desc := "(LLoopLane$Act;JJJI)I" } : Jvm.MethodName)) ∈ lw_all := lw_g (lw_at lw_m4 236 rfl) rfl
theorem q1029 : (Jvm.Cond.privateMethod ({ cls := "LoopLane", name := "work", desc := "(LLoopLane$Act;JJJI)I" } : Jvm.MethodName)) ∈ lw_tbl := lw_at lw_m4 237 rfl
theorem q1030 : (Jvm.Cond.instanceMethod ({ cls := "LoopLane", name := "work", desc := "(LLoopLane$Act;JJJI)I" } : Jvm.MethodName)) ∈ lw_all := lw_g (lw_at lw_m4 238 rfl) rfl
theorem q1031 : (Jvm.Cond.codeWith ({ cls := "LoopLane", name := "work", desc := "(LLoopLane$Act;JJJI)I" } : Jvm.MethodName) prog_1_method_19_code (10 : Nat) (Option.some Jvm.ClassFile.FieldType.int) [((0 : Nat), (21 : Nat), (22 : Nat), (189 : Nat)), ((0 : Nat), (21 : Nat), (27 : Nat), (191 : Nat)), ((0 : Nat), (21 : Nat), (32 : Nat), (193 : Nat)), ((0 : Nat), (21 : Nat), (37 : Nat), (195 : Nat))]) ∈ lw_all := lw_g (lw_at lw_m4 239 rfl) rfl
theorem q1032 : (Jvm.Cond.classLink "LoopLane" (195 : Nat) "java/lang/ArithmeticException") ∈ lw_all := lw_g (lw_at lw_m5 0 rfl) rfl
theorem q1046 : (Jvm.Cond.methodLink "LoopLane" (185 : Nat) ({ cls := "LoopLane$Act", name := "work", desc := "(LLoopLane$Lane;JJJ)J" } : Jvm.MethodName)) ∈ lw_all := lw_g (lw_at lw_m5 14 rfl) rfl
theorem q1083 : (Jvm.Cond.methodLink "LoopLane" (254 : Nat) ({ cls := "LoopLane", name := "runPlain", desc := "(LLoopLane$Result;I)V" } : Jvm.MethodName)) ∈ lw_all := lw_g (lw_at lw_m5 51 rfl) rfl
theorem q1084 : (Jvm.Cond.privateMethod ({ cls := "LoopLane", name := "runPlain", desc := "(LLoopLane$Result;I)V" } : Jvm.MethodName)) ∈ lw_tbl := lw_at lw_m5 52 rfl
theorem q1085 : (Jvm.Cond.instanceMethod ({ cls := "LoopLane", name := "runPlain", desc := "(LLoopLane$Result;I)V" } : Jvm.MethodName)) ∈ lw_all := lw_g (lw_at lw_m5 53 rfl) rfl
theorem q1086 : (Jvm.Cond.code ({ cls := "LoopLane", name := "runPlain", desc := "(LLoopLane$Result;I)V" } : Jvm.MethodName) prog_1_method_21_code (7 : Nat) (Option.none : Option Jvm.ClassFile.FieldType)) ∈ lw_all := lw_g (lw_at lw_m5 54 rfl) rfl
theorem q1087 : (Jvm.Cond.methodLink "LoopLane" (206 : Nat) ({ cls := "LoopLane", name := "plainly", desc := "(LLoopLane$Act;II)J" } : Jvm.MethodName)) ∈ lw_all := lw_g (lw_at lw_m5 55 rfl) rfl
theorem q1088 : (Jvm.Cond.privateMethod ({ cls := "LoopLane", name := "plainly", desc := "(LLoopLane$Act;II)J" } : Jvm.MethodName)) ∈ lw_tbl := lw_at lw_m5 56 rfl
theorem q1089 : (Jvm.Cond.instanceMethod ({ cls := "LoopLane", name := "plainly", desc := "(LLoopLane$Act;II)J" } : Jvm.MethodName)) ∈ lw_all := lw_g (lw_at lw_m5 57 rfl) rfl
theorem q1090 : (Jvm.Cond.code ({ cls := "LoopLane", name := "plainly", desc := "(LLoopLane$Act;II)J" } : Jvm.MethodName) prog_1_method_20_code (5 : Nat) (Option.some Jvm.ClassFile.FieldType.long)) ∈ lw_all := lw_g (lw_at lw_m5 58 rfl) rfl
theorem q1092 : (Jvm.Cond.instanceMethod ({ cls := "LoopLane", name := "compare", desc := "(I)I" } : Jvm.MethodName)) ∈ lw_all := lw_g (lw_at lw_m5 60 rfl) rfl
theorem q1093 : (Jvm.Cond.selects "LoopLane" ({ cls := "LoopLane", name := "compare", desc := "(I)I" } : Jvm.MethodName) ({ cls := "LoopLane", name := "compare", desc := "(I)I" } : Jvm.MethodName)) ∈ lw_all := lw_g (lw_at lw_m5 61 rfl) rfl
theorem q1094 : (Jvm.Cond.codeWith ({ cls := "LoopLane", name := "compare", desc := "(I)I" } : Jvm.MethodName) prog_1_method_76_code (3 : Nat) (Option.some Jvm.ClassFile.FieldType.int) [((0 : Nat), (11 : Nat), (12 : Nat), (315 : Nat))]) ∈ lw_all := lw_g (lw_at lw_m5 62 rfl) rfl
theorem q1095 : (Jvm.Cond.methodLink "LoopLane" (484 : Nat) ({ cls := "LoopLane", name := "compareRuns", desc := "(I)I" } : Jvm.MethodName)) ∈ lw_all := lw_g (lw_at lw_m5 63 rfl) rfl
theorem q1096 : (Jvm.Cond.privateMethod ({ cls := "LoopLane", name := "compareRuns", desc := "(I)I" } : Jvm.MethodName)) ∈ lw_tbl := lw_at lw_m5 64 rfl
theorem q1097 : (Jvm.Cond.instanceMethod ({ cls := "LoopLane", name := "compareRuns", desc := "(I)I" } : Jvm.MethodName)) ∈ lw_all := lw_g (lw_at lw_m5 65 rfl) rfl
theorem q1098 : (Jvm.Cond.code ({ cls := "LoopLane", name := "compareRuns", desc := "(I)I" } : Jvm.MethodName) prog_1_method_28_code (4 : Nat) (Option.some Jvm.ClassFile.FieldType.int)) ∈ lw_all := lw_g (lw_at lw_m5 66 rfl) rfl
theorem q1099 : (Jvm.Cond.methodLink "LoopLane" (289 : Nat) ({ cls := "LoopLane", name := "keepRows", desc := "([JZ)V" } : Jvm.MethodName)) ∈ lw_all := lw_g (lw_at lw_m5 67 rfl) rfl
theorem q1100 : (Jvm.Cond.privateMethod ({ cls := "LoopLane", name := "keepRows", desc := "([JZ)V" } : Jvm.MethodName)) ∈ lw_tbl := lw_at lw_m5 68 rfl
theorem q1101 : (Jvm.Cond.instanceMethod ({ cls := "LoopLane", name := "keepRows", desc := "([JZ)V" } : Jvm.MethodName)) ∈ lw_all := lw_g (lw_at lw_m5 69 rfl) rfl
theorem q1102 : (Jvm.Cond.code ({ cls := "LoopLane", name := "keepRows", desc := "([JZ)V" } : Jvm.MethodName) prog_1_method_26_code (5 : Nat) (Option.none : Option Jvm.ClassFile.FieldType)) ∈ lw_all := lw_g (lw_at lw_m5 70 rfl) rfl
theorem q1103 : (Jvm.Cond.methodLink "LoopLane" (306 : Nat) ({ cls := "LoopLane", name := "areRows", desc := "([J)Z" } : Jvm.MethodName)) ∈ lw_all := lw_g (lw_at lw_m5 71 rfl) rfl
theorem q1104 : (Jvm.Cond.privateMethod ({ cls := "LoopLane", name := "areRows", desc := "([J)Z" } : Jvm.MethodName)) ∈ lw_tbl := lw_at lw_m5 72 rfl
theorem q1105 : (Jvm.Cond.instanceMethod ({ cls := "LoopLane", name := "areRows", desc := "([J)Z" } : Jvm.MethodName)) ∈ lw_all := lw_g (lw_at lw_m5 73 rfl) rfl
theorem q1106 : (Jvm.Cond.code ({ cls := "LoopLane", name := "areRows", desc := "([J)Z" } : Jvm.MethodName) prog_1_method_27_code (5 : Nat) (Option.some Jvm.ClassFile.FieldType.boolean)) ∈ lw_all := lw_g (lw_at lw_m5 74 rfl) rfl
theorem q1108 : (Jvm.Cond.instanceMethod ({ cls := "LoopLane", name := "told", desc := "(I)I" } : Jvm.MethodName)) ∈ lw_all := lw_g (lw_at lw_m5 76 rfl) rfl
theorem q1109 : (Jvm.Cond.selects "LoopLane" ({ cls := "LoopLane", name := "told", desc := "(I)I" } : Jvm.MethodName) ({ cls := "LoopLane", name := "told", desc := "(I)I" } : Jvm.MethodName)) ∈ lw_all := lw_g (lw_at lw_m5 77 rfl) rfl
theorem q1110 : (Jvm.Cond.code ({ cls := "LoopLane", name := "told", desc := "(I)I" } : Jvm.MethodName) prog_1_method_77_code (2 : Nat) (Option.some Jvm.ClassFile.FieldType.int)) ∈ lw_all := lw_g (lw_at lw_m5 78 rfl) rfl
theorem q1112 : (Jvm.Cond.instanceMethod ({ cls := "LoopLane", name := "end", desc := "(I)J" } : Jvm.MethodName)) ∈ lw_all := lw_g (lw_at lw_m5 80 rfl) rfl
theorem q1113 : (Jvm.Cond.selects "LoopLane" ({ cls := "LoopLane", name := "end", desc := "(I)J" } : Jvm.MethodName) ({ cls := "LoopLane", name := "end", desc := "(I)J" } : Jvm.MethodName)) ∈ lw_all := lw_g (lw_at lw_m5 81 rfl) rfl
theorem q1114 : (Jvm.Cond.code ({ cls := "LoopLane", name := "end", desc := "(I)J" } : Jvm.MethodName) prog_1_method_78_code (2 : Nat) (Option.some Jvm.ClassFile.FieldType.long)) ∈ lw_all := lw_g (lw_at lw_m5 82 rfl) rfl
theorem q1116 : (Jvm.Cond.instanceMethod ({ cls := "LoopLane", name := "again", desc := "()I" } : Jvm.MethodName)) ∈ lw_all := lw_g (lw_at lw_m5 84 rfl) rfl
theorem q1117 : (Jvm.Cond.selects "LoopLane" ({ cls := "LoopLane", name := "again", desc := "()I" } : Jvm.MethodName) ({ cls := "LoopLane", name := "again", desc := "()I" } : Jvm.MethodName)) ∈ lw_all := lw_g (lw_at lw_m5 85 rfl) rfl
theorem q1118 : (Jvm.Cond.codeWith ({ cls := "LoopLane", name := "again", desc := "()I" } : Jvm.MethodName) prog_1_method_79_code (3 : Nat) (Option.some Jvm.ClassFile.FieldType.int) [((10 : Nat), (12 : Nat), (12 : Nat), (315 : Nat)), ((10 : Nat), (12 : Nat), (18 : Nat), (189 : Nat))]) ∈ lw_all := lw_g (lw_at lw_m5 86 rfl) rfl
theorem q1120 : (Jvm.Cond.instanceMethod ({ cls := "LoopLane", name := "status", desc := "(I)I" } : Jvm.MethodName)) ∈ lw_all := lw_g (lw_at lw_m5 88 rfl) rfl
theorem q1121 : (Jvm.Cond.selects "LoopLane" ({ cls := "LoopLane", name := "status", desc := "(I)I" } : Jvm.MethodName) ({ cls := "LoopLane", name := "status", desc := "(I)I" } : Jvm.MethodName)) ∈ lw_all := lw_g (lw_at lw_m5 89 rfl) rfl
theorem q1122 : (Jvm.Cond.code ({ cls := "LoopLane", name := "status", desc := "(I)I" } : Jvm.MethodName) prog_1_method_80_code (2 : Nat) (Option.some Jvm.ClassFile.FieldType.int)) ∈ lw_all := lw_g (lw_at lw_m5 90 rfl) rfl
theorem q1123 : (Jvm.Cond.constantLong "LoopLane" (487 : Nat) (-11 : Int64)) ∈ lw_all := lw_g (lw_at lw_m5 91 rfl) rfl
theorem q1124 : (Jvm.Cond.constantLong "LoopLane" (489 : Nat) (-2 : Int64)) ∈ lw_all := lw_g (lw_at lw_m5 92 rfl) rfl
theorem in_X0 : ∀ w ∈ wsX00, w ∈ lw_all := lw_in wsX00 [450, 452, 454, 456, 458, 460, 462, 464, 466, 468, 470, 472, 474, 476, 478, 480, 482, 484, 486, 488, 490, 492, 494, 496, 498, 500, 502, 504, 506, 508, 510, 512, 514, 516, 518, 520, 522, 524, 526, 528, 530, 532, 534, 536, 538, 540, 542] (by decide +kernel) (by decide +kernel)

/-! LoopLane$Lane -/
def RX1 : String := "LoopLane$Lane"
def TX1 : u_T := fun k => match k with
  | _ => ("LoopLane$Lane", "slots", "[LLoopLane$Slot;", true)
def tyX1 : Nat → FieldType := fun k => match k with
  | _ => .array (.object "LoopLane$Slot")
abbrev wsX10 : List Cond := u_ws RX1 TX1 1
theorem nmX1 : ∀ a, a < 1 → ∀ b, b < 1 → a ≠ b → (TX1 a).2.1 ≠ (TX1 b).2.1 := by decide +kernel
theorem tyX1_ok : ∀ k, k < 1 → parseFieldDescriptor (TX1 k).2.2.1 = some (tyX1 k) := by decide +kernel
abbrev cX1_init : ByteArray := prog_4_method_1_code
def yX1_init : MethodName := ⟨RX1, "<init>", "()V"⟩
abbrev cX1_longs : ByteArray := prog_4_method_2_code
def yX1_longs : MethodName := ⟨RX1, "longs", "(I)[J"⟩
theorem q74 : (Jvm.Cond.initialized "LoopLane$Lane") ∈ lw_all := lw_g (lw_at lw_m1 2 rfl) rfl
theorem q111 : (Jvm.Cond.instantiable "LoopLane$Lane" (1 : Nat)) ∈ lw_all := lw_g (lw_at lw_m1 39 rfl) rfl
theorem q113 : (Jvm.Cond.instanceMethod ({ cls := "LoopLane$Lane", name := "<init>", desc := "()V" } : Jvm.MethodName)) ∈ lw_all := lw_g (lw_at lw_m1 41 rfl) rfl
theorem q114 : (Jvm.Cond.code ({ cls := "LoopLane$Lane", name := "<init>", desc := "()V" } : Jvm.MethodName) prog_4_method_1_code (2 : Nat) (Option.none : Option Jvm.ClassFile.FieldType)) ∈ lw_all := lw_g (lw_at lw_m1 42 rfl) rfl
theorem q115 : (Jvm.Cond.methodLink "LoopLane$Lane" (3 : Nat) ({ cls := "java/lang/Object", name := "<init>", desc := "()V" } : Jvm.MethodName)) ∈ lw_all := lw_g (lw_at lw_m1 43 rfl) rfl
theorem q116 : (Jvm.Cond.classLink "LoopLane$Lane" (9 : Nat) "LoopLane$Slot") ∈ lw_all := lw_g (lw_at lw_m1 44 rfl) rfl
theorem q119 : (Jvm.Cond.methodLinkNest "LoopLane$Lane" (17 : Nat) ({ cls := "LoopLane$Slot", name := "<init>", desc := "()V" } : Jvm.MethodName) "LoopLane") ∈ lw_tbl := lw_at lw_m1 47 rfl
theorem q123 : (Jvm.Cond.fieldLinkNest "LoopLane$Lane" (18 : Nat) "LoopLane$Slot" "held" "Ljava/lang/Object;" "LoopLane") ∈ lw_tbl := lw_at lw_m1 51 rfl
theorem q129 : (Jvm.Cond.fieldLink "LoopLane$Lane" (11 : Nat) "LoopLane$Lane" "slots" "[LLoopLane$Slot;") ∈ lw_all := lw_g (lw_at lw_m1 57 rfl) rfl
theorem q131 : (Jvm.Cond.laysFinal "LoopLane$Lane" "LoopLane$Lane" "slots" "[LLoopLane$Slot;") ∈ lw_all := lw_g (lw_at lw_m1 59 rfl) rfl
theorem q132 : (Jvm.Cond.soleField "LoopLane$Lane" "slots") ∈ lw_all := lw_g (lw_at lw_m1 60 rfl) rfl
theorem q133 : (Jvm.Cond.superclass "LoopLane$Lane" "java/lang/Object") ∈ lw_all := lw_g (lw_at lw_m1 61 rfl) rfl
theorem q849 : (Jvm.Cond.instanceMethod ({ cls := "LoopLane$Lane", name := "longs", desc := "(I)[J" } : Jvm.MethodName)) ∈ lw_all := lw_g (lw_at lw_m4 57 rfl) rfl
theorem q850 : (Jvm.Cond.selects "LoopLane$Lane" ({ cls := "LoopLane$Lane", name := "longs", desc := "(I)[J" } : Jvm.MethodName) ({ cls := "LoopLane$Lane", name := "longs", desc := "(I)[J" } : Jvm.MethodName)) ∈ lw_all := lw_g (lw_at lw_m4 58 rfl) rfl
theorem q851 : (Jvm.Cond.code ({ cls := "LoopLane$Lane", name := "longs", desc := "(I)[J" } : Jvm.MethodName) prog_4_method_2_code (4 : Nat) (Option.some (Jvm.ClassFile.FieldType.array Jvm.ClassFile.FieldType.long))) ∈ lw_all := lw_g (lw_at lw_m4 59 rfl) rfl
theorem q852 : (Jvm.Cond.classLink "LoopLane$Lane" (22 : Nat) "[J") ∈ lw_all := lw_g (lw_at lw_m4 60 rfl) rfl
theorem in_X1 : ∀ w ∈ wsX10, w ∈ lw_all := lw_in wsX10 [131] (by decide +kernel) (by decide +kernel)

/-! LoopLane$Slot -/
def RX2 : String := "LoopLane$Slot"
def TX2 : u_T := fun k => match k with
  | _ => ("LoopLane$Slot", "held", "Ljava/lang/Object;", false)
def tyX2 : Nat → FieldType := fun k => match k with
  | _ => .object "java/lang/Object"
abbrev wsX20 : List Cond := u_ws RX2 TX2 1
theorem nmX2 : ∀ a, a < 1 → ∀ b, b < 1 → a ≠ b → (TX2 a).2.1 ≠ (TX2 b).2.1 := by decide +kernel
theorem tyX2_ok : ∀ k, k < 1 → parseFieldDescriptor (TX2 k).2.2.1 = some (tyX2 k) := by decide +kernel
abbrev cX2_init : ByteArray := prog_10_method_1_code
def yX2_init : MethodName := ⟨RX2, "<init>", "()V"⟩
theorem q75 : (Jvm.Cond.initialized "LoopLane$Slot") ∈ lw_all := lw_g (lw_at lw_m1 3 rfl) rfl
theorem q118 : (Jvm.Cond.instantiable "LoopLane$Slot" (1 : Nat)) ∈ lw_all := lw_g (lw_at lw_m1 46 rfl) rfl
theorem q120 : (Jvm.Cond.instanceMethod ({ cls := "LoopLane$Slot", name := "<init>", desc := "()V" } : Jvm.MethodName)) ∈ lw_all := lw_g (lw_at lw_m1 48 rfl) rfl
theorem q121 : (Jvm.Cond.code ({ cls := "LoopLane$Slot", name := "<init>", desc := "()V" } : Jvm.MethodName) prog_10_method_1_code (1 : Nat) (Option.none : Option Jvm.ClassFile.FieldType)) ∈ lw_all := lw_g (lw_at lw_m1 49 rfl) rfl
theorem q122 : (Jvm.Cond.methodLink "LoopLane$Slot" (1 : Nat) ({ cls := "java/lang/Object", name := "<init>", desc := "()V" } : Jvm.MethodName)) ∈ lw_all := lw_g (lw_at lw_m1 50 rfl) rfl
theorem q125 : (Jvm.Cond.lays "LoopLane$Slot" "LoopLane$Slot" "held" "Ljava/lang/Object;") ∈ lw_all := lw_g (lw_at lw_m1 53 rfl) rfl
theorem q126 : (Jvm.Cond.soleField "LoopLane$Slot" "held") ∈ lw_all := lw_g (lw_at lw_m1 54 rfl) rfl
theorem q127 : (Jvm.Cond.superclass "LoopLane$Slot" "java/lang/Object") ∈ lw_all := lw_g (lw_at lw_m1 55 rfl) rfl
theorem in_X2 : ∀ w ∈ wsX20, w ∈ lw_all := lw_in wsX20 [125] (by decide +kernel) (by decide +kernel)

/-! LoopLane$Result -/
def RX3 : String := "LoopLane$Result"
def TX3 : u_T := fun k => match k with
  | 0 => ("LoopLane$Result", "refusal", "I", false)
  | 1 => ("LoopLane$Result", "act", "I", false)
  | 2 => ("LoopLane$Result", "turn", "I", false)
  | 3 => ("LoopLane$Result", "begun", "I", false)
  | 4 => ("LoopLane$Result", "ticks", "I", false)
  | 5 => ("LoopLane$Result", "laid", "Z", false)
  | 6 => ("LoopLane$Result", "whole", "I", false)
  | _ => ("LoopLane$Result", "ends", "[J", true)
def tyX3 : Nat → FieldType := fun k => match k with
  | 0 => .int
  | 1 => .int
  | 2 => .int
  | 3 => .int
  | 4 => .int
  | 5 => .boolean
  | 6 => .int
  | _ => .array .long
abbrev wsX30 : List Cond := u_ws RX3 TX3 8
theorem nmX3 : ∀ a, a < 8 → ∀ b, b < 8 → a ≠ b → (TX3 a).2.1 ≠ (TX3 b).2.1 := by decide +kernel
theorem tyX3_ok : ∀ k, k < 8 → parseFieldDescriptor (TX3 k).2.2.1 = some (tyX3 k) := by decide +kernel
abbrev cX3_init : ByteArray := prog_9_method_1_code
def yX3_init : MethodName := ⟨RX3, "<init>", "()V"⟩
abbrev cX3_clear : ByteArray := prog_9_method_2_code
def yX3_clear : MethodName := ⟨RX3, "clear", "()V"⟩
theorem q76 : (Jvm.Cond.initialized "LoopLane$Result") ∈ lw_all := lw_g (lw_at lw_m1 4 rfl) rfl
theorem q151 : (Jvm.Cond.instantiable "LoopLane$Result" (8 : Nat)) ∈ lw_all := lw_g (lw_at lw_m1 79 rfl) rfl
theorem q153 : (Jvm.Cond.instanceMethod ({ cls := "LoopLane$Result", name := "<init>", desc := "()V" } : Jvm.MethodName)) ∈ lw_all := lw_g (lw_at lw_m1 81 rfl) rfl
theorem q154 : (Jvm.Cond.code ({ cls := "LoopLane$Result", name := "<init>", desc := "()V" } : Jvm.MethodName) prog_9_method_1_code (1 : Nat) (Option.none : Option Jvm.ClassFile.FieldType)) ∈ lw_all := lw_g (lw_at lw_m1 82 rfl) rfl
theorem q155 : (Jvm.Cond.methodLink "LoopLane$Result" (3 : Nat) ({ cls := "java/lang/Object", name := "<init>", desc := "()V" } : Jvm.MethodName)) ∈ lw_all := lw_g (lw_at lw_m1 83 rfl) rfl
theorem q156 : (Jvm.Cond.fieldLink "LoopLane$Result" (15 : Nat) "LoopLane$Result" "refusal" "I") ∈ lw_all := lw_g (lw_at lw_m1 84 rfl) rfl
theorem q158 : (Jvm.Cond.fieldLink "LoopLane$Result" (19 : Nat) "LoopLane$Result" "act" "I") ∈ lw_all := lw_g (lw_at lw_m1 86 rfl) rfl
theorem q160 : (Jvm.Cond.fieldLink "LoopLane$Result" (22 : Nat) "LoopLane$Result" "turn" "I") ∈ lw_all := lw_g (lw_at lw_m1 88 rfl) rfl
theorem q162 : (Jvm.Cond.fieldLink "LoopLane$Result" (25 : Nat) "LoopLane$Result" "begun" "I") ∈ lw_all := lw_g (lw_at lw_m1 90 rfl) rfl
theorem q164 : (Jvm.Cond.fieldLink "LoopLane$Result" (28 : Nat) "LoopLane$Result" "ticks" "I") ∈ lw_all := lw_g (lw_at lw_m1 92 rfl) rfl
theorem q166 : (Jvm.Cond.fieldLink "LoopLane$Result" (31 : Nat) "LoopLane$Result" "laid" "Z") ∈ lw_all := lw_g (lw_at lw_m1 94 rfl) rfl
theorem q168 : (Jvm.Cond.fieldLink "LoopLane$Result" (35 : Nat) "LoopLane$Result" "whole" "I") ∈ lw_all := lw_g (lw_at lw_m1 96 rfl) rfl
theorem q170 : (Jvm.Cond.fieldLink "LoopLane$Result" (9 : Nat) "LoopLane$Result" "ends" "[J") ∈ lw_all := lw_g (lw_at lw_m1 98 rfl) rfl
theorem q172 : (Jvm.Cond.lays "LoopLane$Result" "LoopLane$Result" "refusal" "I") ∈ lw_all := lw_g (lw_at lw_m1 100 rfl) rfl
theorem q173 : (Jvm.Cond.soleField "LoopLane$Result" "refusal") ∈ lw_all := lw_g (lw_at lw_m1 101 rfl) rfl
theorem q174 : (Jvm.Cond.lays "LoopLane$Result" "LoopLane$Result" "act" "I") ∈ lw_all := lw_g (lw_at lw_m1 102 rfl) rfl
theorem q175 : (Jvm.Cond.soleField "LoopLane$Result" "act") ∈ lw_all := lw_g (lw_at lw_m1 103 rfl) rfl
theorem q176 : (Jvm.Cond.lays "LoopLane$Result" "LoopLane$Result" "turn" "I") ∈ lw_all := lw_g (lw_at lw_m1 104 rfl) rfl
theorem q177 : (Jvm.Cond.soleField "LoopLane$Result" "turn") ∈ lw_all := lw_g (lw_at lw_m1 105 rfl) rfl
theorem q178 : (Jvm.Cond.lays "LoopLane$Result" "LoopLane$Result" "begun" "I") ∈ lw_all := lw_g (lw_at lw_m1 106 rfl) rfl
theorem q179 : (Jvm.Cond.soleField "LoopLane$Result" "begun") ∈ lw_all := lw_g (lw_at lw_m1 107 rfl) rfl
theorem q180 : (Jvm.Cond.lays "LoopLane$Result" "LoopLane$Result" "ticks" "I") ∈ lw_all := lw_g (lw_at lw_m1 108 rfl) rfl
theorem q181 : (Jvm.Cond.soleField "LoopLane$Result" "ticks") ∈ lw_all := lw_g (lw_at lw_m1 109 rfl) rfl
theorem q182 : (Jvm.Cond.lays "LoopLane$Result" "LoopLane$Result" "laid" "Z") ∈ lw_all := lw_g (lw_at lw_m1 110 rfl) rfl
theorem q183 : (Jvm.Cond.soleField "LoopLane$Result" "laid") ∈ lw_all := lw_g (lw_at lw_m1 111 rfl) rfl
theorem q184 : (Jvm.Cond.lays "LoopLane$Result" "LoopLane$Result" "whole" "I") ∈ lw_all := lw_g (lw_at lw_m1 112 rfl) rfl
theorem q185 : (Jvm.Cond.soleField "LoopLane$Result" "whole") ∈ lw_all := lw_g (lw_at lw_m1 113 rfl) rfl
theorem q186 : (Jvm.Cond.laysFinal "LoopLane$Result" "LoopLane$Result" "ends" "[J") ∈ lw_all := lw_g (lw_at lw_m1 114 rfl) rfl
theorem q187 : (Jvm.Cond.soleField "LoopLane$Result" "ends") ∈ lw_all := lw_g (lw_at lw_m1 115 rfl) rfl
theorem q188 : (Jvm.Cond.superclass "LoopLane$Result" "java/lang/Object") ∈ lw_all := lw_g (lw_at lw_m1 116 rfl) rfl
theorem q400 : (Jvm.Cond.instanceMethod ({ cls := "LoopLane$Result", name := "clear", desc := "()V" } : Jvm.MethodName)) ∈ lw_all := lw_g (lw_at lw_m2 88 rfl) rfl
theorem q401 : (Jvm.Cond.selects "LoopLane$Result" ({ cls := "LoopLane$Result", name := "clear", desc := "()V" } : Jvm.MethodName) ({ cls := "LoopLane$Result", name := "clear", desc := "()V" } : Jvm.MethodName)) ∈ lw_all := lw_g (lw_at lw_m2 89 rfl) rfl
theorem q402 : (Jvm.Cond.code ({ cls := "LoopLane$Result", name := "clear", desc := "()V" } : Jvm.MethodName) prog_9_method_2_code (2 : Nat) (Option.none : Option Jvm.ClassFile.FieldType)) ∈ lw_all := lw_g (lw_at lw_m2 90 rfl) rfl
theorem in_X3 : ∀ w ∈ wsX30, w ∈ lw_all := lw_in wsX30 [172, 174, 176, 178, 180, 182, 184, 186] (by decide +kernel) (by decide +kernel)

/-! java/lang/Throwable -/
def RJ0 : String := "java/lang/Throwable"
def TJ0 : u_T := fun k => match k with
  | 0 => ("java/lang/Throwable", "cause", "Ljava/lang/Throwable;", false)
  | 1 => ("java/lang/Throwable", "stackTrace", "[Ljava/lang/StackTraceElement;", false)
  | 2 => ("java/lang/Throwable", "suppressedExceptions", "Ljava/util/List;", false)
  | 3 => ("java/lang/Throwable", "detailMessage", "Ljava/lang/String;", false)
  | _ => ("java/lang/Throwable", "backtrace", "Ljava/lang/Object;", false)
def tyJ0 : Nat → FieldType := fun k => match k with
  | 0 => .object "java/lang/Throwable"
  | 1 => .array (.object "java/lang/StackTraceElement")
  | 2 => .object "java/util/List"
  | 3 => .object "java/lang/String"
  | _ => .object "java/lang/Object"
abbrev wsJ00 : List Cond := u_ws RJ0 TJ0 5
theorem nmJ0 : ∀ a, a < 5 → ∀ b, b < 5 → a ≠ b → (TJ0 a).2.1 ≠ (TJ0 b).2.1 := by decide +kernel
theorem tyJ0_ok : ∀ k, k < 5 → parseFieldDescriptor (TJ0 k).2.2.1 = some (tyJ0 k) := by decide +kernel
abbrev cJ0_init : ByteArray := prog_28_method_1_code
def yJ0_init : MethodName := ⟨RJ0, "<init>", "()V"⟩
abbrev cJ0_init_2 : ByteArray := prog_28_method_5_code
def yJ0_init_2 : MethodName := ⟨RJ0, "<init>", "(Ljava/lang/String;Ljava/lang/Throwable;ZZ)V"⟩
abbrev cJ0_init_3 : ByteArray := prog_28_method_2_code
def yJ0_init_3 : MethodName := ⟨RJ0, "<init>", "(Ljava/lang/String;)V"⟩
theorem q77 : (Jvm.Cond.initialized "java/lang/Throwable") ∈ lw_all := lw_g (lw_at lw_m1 5 rfl) rfl
theorem q196 : (Jvm.Cond.declares ({ cls := "java/lang/Throwable", name := "<init>", desc := "()V" } : Jvm.MethodName)) ∈ lw_tbl := lw_at lw_m1 124 rfl
theorem q197 : (Jvm.Cond.declares ({ cls := "java/lang/Throwable", name := "<init>", desc := "(Ljava/lang/String;)V" } : Jvm.MethodName)) ∈ lw_tbl := lw_at lw_m1 125 rfl
theorem q201 : (Jvm.Cond.lays "java/lang/Throwable" "java/lang/Throwable" "cause" "Ljava/lang/Throwable;") ∈ lw_all := lw_g (lw_at lw_m1 129 rfl) rfl
theorem q203 : (Jvm.Cond.lays "java/lang/Throwable" "java/lang/Throwable" "stackTrace" "[Ljava/lang/StackTraceElement;") ∈ lw_all := lw_g (lw_at lw_m1 131 rfl) rfl
theorem q205 : (Jvm.Cond.lays "java/lang/Throwable" "java/lang/Throwable" "suppressedExceptions" "Ljava/util/List;") ∈ lw_all := lw_g (lw_at lw_m1 133 rfl) rfl
theorem q207 : (Jvm.Cond.lays "java/lang/Throwable" "java/lang/Throwable" "detailMessage" "Ljava/lang/String;") ∈ lw_all := lw_g (lw_at lw_m1 135 rfl) rfl
theorem q209 : (Jvm.Cond.lays "java/lang/Throwable" "java/lang/Throwable" "backtrace" "Ljava/lang/Object;") ∈ lw_all := lw_g (lw_at lw_m1 137 rfl) rfl
theorem q210 : (Jvm.Cond.fieldLink "java/lang/Throwable" (198 : Nat) "java/lang/Throwable" "backtrace" "Ljava/lang/Object;") ∈ lw_all := lw_g (lw_at lw_m1 138 rfl) rfl
theorem q211 : (Jvm.Cond.superclass "java/lang/Throwable" "java/lang/Object") ∈ lw_all := lw_g (lw_at lw_m1 139 rfl) rfl
theorem q212 : (Jvm.Cond.instanceMethod ({ cls := "java/lang/Throwable", name := "<init>", desc := "()V" } : Jvm.MethodName)) ∈ lw_all := lw_g (lw_at lw_m1 140 rfl) rfl
theorem q213 : (Jvm.Cond.code ({ cls := "java/lang/Throwable", name := "<init>", desc := "()V" } : Jvm.MethodName) prog_28_method_1_code (1 : Nat) (Option.none : Option Jvm.ClassFile.FieldType)) ∈ lw_all := lw_g (lw_at lw_m1 141 rfl) rfl
theorem q214 : (Jvm.Cond.methodLink "java/lang/Throwable" (1 : Nat) ({ cls := "java/lang/Object", name := "<init>", desc := "()V" } : Jvm.MethodName)) ∈ lw_all := lw_g (lw_at lw_m1 142 rfl) rfl
theorem q215 : (Jvm.Cond.fieldLink "java/lang/Throwable" (13 : Nat) "java/lang/Throwable" "UNASSIGNED_STACK" "[Ljava/lang/StackTraceElement;") ∈ lw_all := lw_g (lw_at lw_m1 143 rfl) rfl
theorem q216 : (Jvm.Cond.laysStatic "java/lang/Throwable" "UNASSIGNED_STACK" "[Ljava/lang/StackTraceElement;") ∈ lw_tbl := lw_at lw_m1 144 rfl
theorem q217 : (Jvm.Cond.fieldLink "java/lang/Throwable" (20 : Nat) "java/lang/Throwable" "SUPPRESSED_SENTINEL" "Ljava/util/List;") ∈ lw_all := lw_g (lw_at lw_m1 145 rfl) rfl
theorem q218 : (Jvm.Cond.laysStatic "java/lang/Throwable" "SUPPRESSED_SENTINEL" "Ljava/util/List;") ∈ lw_tbl := lw_at lw_m1 146 rfl
theorem q219 : (Jvm.Cond.methodLink "java/lang/Throwable" (27 : Nat) ({ cls := "java/lang/Throwable", name := "fillInStackTrace", desc := "()Ljava/lang/Throwable;" } : Jvm.MethodName)) ∈ lw_all := lw_g (lw_at lw_m1 147 rfl) rfl
theorem q220 : (Jvm.Cond.instanceMethod ({ cls := "java/lang/Throwable", name := "fillInStackTrace", desc := "()Ljava/lang/Throwable;" } : Jvm.MethodName)) ∈ lw_all := lw_g (lw_at lw_m1 148 rfl) rfl
theorem q221 : (Jvm.Cond.sameMethod "java/lang/Throwable" "java/lang/Throwable" "fillInStackTrace" "()Ljava/lang/Throwable;") ∈ lw_all := lw_g (lw_at lw_m1 149 rfl) rfl
theorem q236 : (Jvm.Cond.declares ({ cls := "java/lang/Throwable", name := "fillInStackTrace", desc := "()Ljava/lang/Throwable;" } : Jvm.MethodName)) ∈ lw_tbl := lw_at lw_m1 164 rfl
theorem q240 : (Jvm.Cond.codeSync ({ cls := "java/lang/Throwable", name := "fillInStackTrace", desc := "()Ljava/lang/Throwable;" } : Jvm.MethodName) prog_28_method_18_code (1 : Nat) (Option.some (Jvm.ClassFile.FieldType.object "java/lang/Throwable"))) ∈ lw_all := lw_g (lw_at lw_m1 168 rfl) rfl
theorem q241 : (Jvm.Cond.methodLink "java/lang/Throwable" (202 : Nat) ({ cls := "java/lang/Throwable", name := "fillInStackTrace", desc := "(I)Ljava/lang/Throwable;" } : Jvm.MethodName)) ∈ lw_all := lw_g (lw_at lw_m1 169 rfl) rfl
theorem q242 : (Jvm.Cond.privateMethod ({ cls := "java/lang/Throwable", name := "fillInStackTrace", desc := "(I)Ljava/lang/Throwable;" } : Jvm.MethodName)) ∈ lw_tbl := lw_at lw_m1 170 rfl
theorem q243 : (Jvm.Cond.instanceMethod ({ cls := "java/lang/Throwable", name := "fillInStackTrace", desc := "(I)Ljava/lang/Throwable;" } : Jvm.MethodName)) ∈ lw_all := lw_g (lw_at lw_m1 171 rfl) rfl
theorem q244 : (Jvm.Cond.instantiable "java/lang/Throwable" (6 : Nat)) ∈ lw_all := lw_g (lw_at lw_m1 172 rfl) rfl
theorem q245 : (Jvm.Cond.native ({ cls := "java/lang/Throwable", name := "fillInStackTrace", desc := "(I)Ljava/lang/Throwable;" } : Jvm.MethodName)) ∈ lw_all := lw_g (lw_at lw_m1 173 rfl) rfl
theorem q256 : (Jvm.Cond.instanceMethod ({ cls := "java/lang/Throwable", name := "<init>", desc := "(Ljava/lang/String;Ljava/lang/Throwable;ZZ)V" } : Jvm.MethodName)) ∈ lw_all := lw_g (lw_at lw_m1 184 rfl) rfl
theorem q257 : (Jvm.Cond.code ({ cls := "java/lang/Throwable", name := "<init>", desc := "(Ljava/lang/String;Ljava/lang/Throwable;ZZ)V" } : Jvm.MethodName) prog_28_method_5_code (5 : Nat) (Option.none : Option Jvm.ClassFile.FieldType)) ∈ lw_all := lw_g (lw_at lw_m1 185 rfl) rfl
theorem q260 : (Jvm.Cond.fieldLink "java/lang/Throwable" (198 : Nat) "java/lang/Throwable" "backtrace" "Ljava/lang/Object;") ∈ lw_all := lw_g (lw_at lw_m1 188 rfl) rfl
theorem q261 : (Jvm.Cond.fieldLink "java/lang/Throwable" (31 : Nat) "java/lang/Throwable" "detailMessage" "Ljava/lang/String;") ∈ lw_all := lw_g (lw_at lw_m1 189 rfl) rfl
theorem q262 : (Jvm.Cond.fieldLink "java/lang/Throwable" (7 : Nat) "java/lang/Throwable" "cause" "Ljava/lang/Throwable;") ∈ lw_all := lw_g (lw_at lw_m1 190 rfl) rfl
theorem q263 : (Jvm.Cond.fieldLink "java/lang/Throwable" (17 : Nat) "java/lang/Throwable" "stackTrace" "[Ljava/lang/StackTraceElement;") ∈ lw_all := lw_g (lw_at lw_m1 191 rfl) rfl
theorem q264 : (Jvm.Cond.fieldLink "java/lang/Throwable" (24 : Nat) "java/lang/Throwable" "suppressedExceptions" "Ljava/util/List;") ∈ lw_all := lw_g (lw_at lw_m1 192 rfl) rfl
theorem q267 : (Jvm.Cond.soleField "java/lang/Throwable" "backtrace") ∈ lw_all := lw_g (lw_at lw_m1 195 rfl) rfl
theorem q268 : (Jvm.Cond.soleField "java/lang/Throwable" "detailMessage") ∈ lw_all := lw_g (lw_at lw_m1 196 rfl) rfl
theorem q269 : (Jvm.Cond.soleField "java/lang/Throwable" "cause") ∈ lw_all := lw_g (lw_at lw_m1 197 rfl) rfl
theorem q270 : (Jvm.Cond.soleField "java/lang/Throwable" "stackTrace") ∈ lw_all := lw_g (lw_at lw_m1 198 rfl) rfl
theorem q272 : (Jvm.Cond.soleField "java/lang/Throwable" "depth") ∈ lw_all := lw_g (lw_at lw_m1 200 rfl) rfl
theorem q273 : (Jvm.Cond.soleField "java/lang/Throwable" "suppressedExceptions") ∈ lw_all := lw_g (lw_at lw_m1 201 rfl) rfl
theorem q749 : (Jvm.Cond.instanceMethod ({ cls := "java/lang/Throwable", name := "<init>", desc := "(Ljava/lang/String;)V" } : Jvm.MethodName)) ∈ lw_all := lw_g (lw_at lw_m3 197 rfl) rfl
theorem q750 : (Jvm.Cond.code ({ cls := "java/lang/Throwable", name := "<init>", desc := "(Ljava/lang/String;)V" } : Jvm.MethodName) prog_28_method_2_code (2 : Nat) (Option.none : Option Jvm.ClassFile.FieldType)) ∈ lw_all := lw_g (lw_at lw_m3 198 rfl) rfl
theorem q1570 : (Jvm.Cond.sameMethod "java/lang/Throwable" "java/lang/Throwable" "fillInStackTrace" "(I)Ljava/lang/Throwable;") ∈ lw_all := lw_g (lw_at lw_m7 58 rfl) rfl
theorem in_J0 : ∀ w ∈ wsJ00, w ∈ lw_all := lw_in wsJ00 [201, 203, 205, 207, 209] (by decide +kernel) (by decide +kernel)

/-! java/lang/Exception -/
def RJ1 : String := "java/lang/Exception"
abbrev cJ1_init : ByteArray := prog_19_method_5_code
def yJ1_init : MethodName := ⟨RJ1, "<init>", "(Ljava/lang/String;Ljava/lang/Throwable;ZZ)V"⟩
abbrev cJ1_init_2 : ByteArray := prog_19_method_2_code
def yJ1_init_2 : MethodName := ⟨RJ1, "<init>", "(Ljava/lang/String;)V"⟩
abbrev cJ1_init_3 : ByteArray := prog_19_method_1_code
def yJ1_init_3 : MethodName := ⟨RJ1, "<init>", "()V"⟩
theorem q78 : (Jvm.Cond.initialized "java/lang/Exception") ∈ lw_all := lw_g (lw_at lw_m1 6 rfl) rfl
theorem q194 : (Jvm.Cond.declares ({ cls := "java/lang/Exception", name := "<init>", desc := "()V" } : Jvm.MethodName)) ∈ lw_tbl := lw_at lw_m1 122 rfl
theorem q195 : (Jvm.Cond.declares ({ cls := "java/lang/Exception", name := "<init>", desc := "(Ljava/lang/String;)V" } : Jvm.MethodName)) ∈ lw_tbl := lw_at lw_m1 123 rfl
theorem q239 : (Jvm.Cond.superclass "java/lang/Exception" "java/lang/Throwable") ∈ lw_all := lw_g (lw_at lw_m1 167 rfl) rfl
theorem q253 : (Jvm.Cond.instanceMethod ({ cls := "java/lang/Exception", name := "<init>", desc := "(Ljava/lang/String;Ljava/lang/Throwable;ZZ)V" } : Jvm.MethodName)) ∈ lw_all := lw_g (lw_at lw_m1 181 rfl) rfl
theorem q254 : (Jvm.Cond.code ({ cls := "java/lang/Exception", name := "<init>", desc := "(Ljava/lang/String;Ljava/lang/Throwable;ZZ)V" } : Jvm.MethodName) prog_19_method_5_code (5 : Nat) (Option.none : Option Jvm.ClassFile.FieldType)) ∈ lw_all := lw_g (lw_at lw_m1 182 rfl) rfl
theorem q255 : (Jvm.Cond.methodLink "java/lang/Exception" (16 : Nat) ({ cls := "java/lang/Throwable", name := "<init>", desc := "(Ljava/lang/String;Ljava/lang/Throwable;ZZ)V" } : Jvm.MethodName)) ∈ lw_all := lw_g (lw_at lw_m1 183 rfl) rfl
theorem q746 : (Jvm.Cond.instanceMethod ({ cls := "java/lang/Exception", name := "<init>", desc := "(Ljava/lang/String;)V" } : Jvm.MethodName)) ∈ lw_all := lw_g (lw_at lw_m3 194 rfl) rfl
theorem q747 : (Jvm.Cond.code ({ cls := "java/lang/Exception", name := "<init>", desc := "(Ljava/lang/String;)V" } : Jvm.MethodName) prog_19_method_2_code (2 : Nat) (Option.none : Option Jvm.ClassFile.FieldType)) ∈ lw_all := lw_g (lw_at lw_m3 195 rfl) rfl
theorem q748 : (Jvm.Cond.methodLink "java/lang/Exception" (7 : Nat) ({ cls := "java/lang/Throwable", name := "<init>", desc := "(Ljava/lang/String;)V" } : Jvm.MethodName)) ∈ lw_all := lw_g (lw_at lw_m3 196 rfl) rfl
theorem q811 : (Jvm.Cond.instanceMethod ({ cls := "java/lang/Exception", name := "<init>", desc := "()V" } : Jvm.MethodName)) ∈ lw_all := lw_g (lw_at lw_m4 19 rfl) rfl
theorem q812 : (Jvm.Cond.code ({ cls := "java/lang/Exception", name := "<init>", desc := "()V" } : Jvm.MethodName) prog_19_method_1_code (1 : Nat) (Option.none : Option Jvm.ClassFile.FieldType)) ∈ lw_all := lw_g (lw_at lw_m4 20 rfl) rfl
theorem q813 : (Jvm.Cond.methodLink "java/lang/Exception" (1 : Nat) ({ cls := "java/lang/Throwable", name := "<init>", desc := "()V" } : Jvm.MethodName)) ∈ lw_all := lw_g (lw_at lw_m4 21 rfl) rfl

/-! java/lang/RuntimeException -/
def RJ2 : String := "java/lang/RuntimeException"
abbrev cJ2_init : ByteArray := prog_25_method_5_code
def yJ2_init : MethodName := ⟨RJ2, "<init>", "(Ljava/lang/String;Ljava/lang/Throwable;ZZ)V"⟩
abbrev cJ2_init_2 : ByteArray := prog_25_method_2_code
def yJ2_init_2 : MethodName := ⟨RJ2, "<init>", "(Ljava/lang/String;)V"⟩
abbrev cJ2_init_3 : ByteArray := prog_25_method_1_code
def yJ2_init_3 : MethodName := ⟨RJ2, "<init>", "()V"⟩
theorem q79 : (Jvm.Cond.initialized "java/lang/RuntimeException") ∈ lw_all := lw_g (lw_at lw_m1 7 rfl) rfl
theorem q192 : (Jvm.Cond.declares ({ cls := "java/lang/RuntimeException", name := "<init>", desc := "()V" } : Jvm.MethodName)) ∈ lw_tbl := lw_at lw_m1 120 rfl
theorem q193 : (Jvm.Cond.declares ({ cls := "java/lang/RuntimeException", name := "<init>", desc := "(Ljava/lang/String;)V" } : Jvm.MethodName)) ∈ lw_tbl := lw_at lw_m1 121 rfl
theorem q235 : (Jvm.Cond.sameMethod "java/lang/RuntimeException" "java/lang/Throwable" "fillInStackTrace" "()Ljava/lang/Throwable;") ∈ lw_all := lw_g (lw_at lw_m1 163 rfl) rfl
theorem q238 : (Jvm.Cond.superclass "java/lang/RuntimeException" "java/lang/Exception") ∈ lw_all := lw_g (lw_at lw_m1 166 rfl) rfl
theorem q250 : (Jvm.Cond.instanceMethod ({ cls := "java/lang/RuntimeException", name := "<init>", desc := "(Ljava/lang/String;Ljava/lang/Throwable;ZZ)V" } : Jvm.MethodName)) ∈ lw_all := lw_g (lw_at lw_m1 178 rfl) rfl
theorem q251 : (Jvm.Cond.code ({ cls := "java/lang/RuntimeException", name := "<init>", desc := "(Ljava/lang/String;Ljava/lang/Throwable;ZZ)V" } : Jvm.MethodName) prog_25_method_5_code (5 : Nat) (Option.none : Option Jvm.ClassFile.FieldType)) ∈ lw_all := lw_g (lw_at lw_m1 179 rfl) rfl
theorem q252 : (Jvm.Cond.methodLink "java/lang/RuntimeException" (16 : Nat) ({ cls := "java/lang/Exception", name := "<init>", desc := "(Ljava/lang/String;Ljava/lang/Throwable;ZZ)V" } : Jvm.MethodName)) ∈ lw_all := lw_g (lw_at lw_m1 180 rfl) rfl
theorem q743 : (Jvm.Cond.instanceMethod ({ cls := "java/lang/RuntimeException", name := "<init>", desc := "(Ljava/lang/String;)V" } : Jvm.MethodName)) ∈ lw_all := lw_g (lw_at lw_m3 191 rfl) rfl
theorem q744 : (Jvm.Cond.code ({ cls := "java/lang/RuntimeException", name := "<init>", desc := "(Ljava/lang/String;)V" } : Jvm.MethodName) prog_25_method_2_code (2 : Nat) (Option.none : Option Jvm.ClassFile.FieldType)) ∈ lw_all := lw_g (lw_at lw_m3 192 rfl) rfl
theorem q745 : (Jvm.Cond.methodLink "java/lang/RuntimeException" (7 : Nat) ({ cls := "java/lang/Exception", name := "<init>", desc := "(Ljava/lang/String;)V" } : Jvm.MethodName)) ∈ lw_all := lw_g (lw_at lw_m3 193 rfl) rfl
theorem q808 : (Jvm.Cond.instanceMethod ({ cls := "java/lang/RuntimeException", name := "<init>", desc := "()V" } : Jvm.MethodName)) ∈ lw_all := lw_g (lw_at lw_m4 16 rfl) rfl
theorem q809 : (Jvm.Cond.code ({ cls := "java/lang/RuntimeException", name := "<init>", desc := "()V" } : Jvm.MethodName) prog_25_method_1_code (1 : Nat) (Option.none : Option Jvm.ClassFile.FieldType)) ∈ lw_all := lw_g (lw_at lw_m4 17 rfl) rfl
theorem q810 : (Jvm.Cond.methodLink "java/lang/RuntimeException" (1 : Nat) ({ cls := "java/lang/Exception", name := "<init>", desc := "()V" } : Jvm.MethodName)) ∈ lw_all := lw_g (lw_at lw_m4 18 rfl) rfl
theorem q828 : (Jvm.Cond.castable "java/lang/RuntimeException" "java/lang/Throwable") ∈ lw_tbl := lw_at lw_m4 36 rfl

/-! LoopLane$Refusal -/
def RX4 : String := "LoopLane$Refusal"
def TX4 : u_T := fun k => match k with
  | 0 => ("java/lang/Throwable", "cause", "Ljava/lang/Throwable;", false)
  | 1 => ("java/lang/Throwable", "stackTrace", "[Ljava/lang/StackTraceElement;", false)
  | 2 => ("java/lang/Throwable", "suppressedExceptions", "Ljava/util/List;", false)
  | 3 => ("java/lang/Throwable", "detailMessage", "Ljava/lang/String;", false)
  | 4 => ("java/lang/Throwable", "backtrace", "Ljava/lang/Object;", false)
  | 5 => ("java/lang/Throwable", "depth", "I", false)
  | _ => ("LoopLane$Refusal", "code", "I", true)
def tyX4 : Nat → FieldType := fun k => match k with
  | 0 => .object "java/lang/Throwable"
  | 1 => .array (.object "java/lang/StackTraceElement")
  | 2 => .object "java/util/List"
  | 3 => .object "java/lang/String"
  | 4 => .object "java/lang/Object"
  | 5 => .int
  | _ => .int
abbrev wsX40 : List Cond := u_ws RX4 TX4 7
theorem nmX4 : ∀ a, a < 7 → ∀ b, b < 7 → a ≠ b → (TX4 a).2.1 ≠ (TX4 b).2.1 := by decide +kernel
theorem tyX4_ok : ∀ k, k < 7 → parseFieldDescriptor (TX4 k).2.2.1 = some (tyX4 k) := by decide +kernel
abbrev cX4_init : ByteArray := prog_8_method_1_code
def yX4_init : MethodName := ⟨RX4, "<init>", "(I)V"⟩
theorem q80 : (Jvm.Cond.initialized "LoopLane$Refusal") ∈ lw_all := lw_g (lw_at lw_m1 8 rfl) rfl
theorem q190 : (Jvm.Cond.instantiable "LoopLane$Refusal" (7 : Nat)) ∈ lw_all := lw_g (lw_at lw_m1 118 rfl) rfl
theorem q191 : (Jvm.Cond.castable "LoopLane$Refusal" "LoopLane$Refusal") ∈ lw_tbl := lw_at lw_m1 119 rfl
theorem q198 : (Jvm.Cond.selects "LoopLane$Refusal" ({ cls := "java/lang/Throwable", name := "fillInStackTrace", desc := "(I)Ljava/lang/Throwable;" } : Jvm.MethodName) ({ cls := "java/lang/Throwable", name := "fillInStackTrace", desc := "(I)Ljava/lang/Throwable;" } : Jvm.MethodName)) ∈ lw_all := lw_g (lw_at lw_m1 126 rfl) rfl
theorem q199 : (Jvm.Cond.selects "LoopLane$Refusal" ({ cls := "java/lang/Throwable", name := "fillInStackTrace", desc := "()Ljava/lang/Throwable;" } : Jvm.MethodName) ({ cls := "java/lang/Throwable", name := "fillInStackTrace", desc := "()Ljava/lang/Throwable;" } : Jvm.MethodName)) ∈ lw_all := lw_g (lw_at lw_m1 127 rfl) rfl
theorem q200 : (Jvm.Cond.lays "LoopLane$Refusal" "java/lang/Throwable" "cause" "Ljava/lang/Throwable;") ∈ lw_all := lw_g (lw_at lw_m1 128 rfl) rfl
theorem q202 : (Jvm.Cond.lays "LoopLane$Refusal" "java/lang/Throwable" "stackTrace" "[Ljava/lang/StackTraceElement;") ∈ lw_all := lw_g (lw_at lw_m1 130 rfl) rfl
theorem q204 : (Jvm.Cond.lays "LoopLane$Refusal" "java/lang/Throwable" "suppressedExceptions" "Ljava/util/List;") ∈ lw_all := lw_g (lw_at lw_m1 132 rfl) rfl
theorem q206 : (Jvm.Cond.lays "LoopLane$Refusal" "java/lang/Throwable" "detailMessage" "Ljava/lang/String;") ∈ lw_all := lw_g (lw_at lw_m1 134 rfl) rfl
theorem q208 : (Jvm.Cond.lays "LoopLane$Refusal" "java/lang/Throwable" "backtrace" "Ljava/lang/Object;") ∈ lw_all := lw_g (lw_at lw_m1 136 rfl) rfl
theorem q247 : (Jvm.Cond.instanceMethod ({ cls := "LoopLane$Refusal", name := "<init>", desc := "(I)V" } : Jvm.MethodName)) ∈ lw_all := lw_g (lw_at lw_m1 175 rfl) rfl
theorem q248 : (Jvm.Cond.code ({ cls := "LoopLane$Refusal", name := "<init>", desc := "(I)V" } : Jvm.MethodName) prog_8_method_1_code (2 : Nat) (Option.none : Option Jvm.ClassFile.FieldType)) ∈ lw_all := lw_g (lw_at lw_m1 176 rfl) rfl
theorem q249 : (Jvm.Cond.methodLink "LoopLane$Refusal" (1 : Nat) ({ cls := "java/lang/RuntimeException", name := "<init>", desc := "(Ljava/lang/String;Ljava/lang/Throwable;ZZ)V" } : Jvm.MethodName)) ∈ lw_all := lw_g (lw_at lw_m1 177 rfl) rfl
theorem q258 : (Jvm.Cond.fieldLink "LoopLane$Refusal" (7 : Nat) "LoopLane$Refusal" "code" "I") ∈ lw_all := lw_g (lw_at lw_m1 186 rfl) rfl
theorem q265 : (Jvm.Cond.laysFinal "LoopLane$Refusal" "LoopLane$Refusal" "code" "I") ∈ lw_all := lw_g (lw_at lw_m1 193 rfl) rfl
theorem q266 : (Jvm.Cond.soleField "LoopLane$Refusal" "code") ∈ lw_all := lw_g (lw_at lw_m1 194 rfl) rfl
theorem q271 : (Jvm.Cond.lays "LoopLane$Refusal" "java/lang/Throwable" "depth" "I") ∈ lw_all := lw_g (lw_at lw_m1 199 rfl) rfl
theorem q274 : (Jvm.Cond.superclass "LoopLane$Refusal" "java/lang/RuntimeException") ∈ lw_all := lw_g (lw_at lw_m1 202 rfl) rfl
theorem in_X4 : ∀ w ∈ wsX40, w ∈ lw_all := lw_in wsX40 [200, 202, 204, 206, 208, 271, 265] (by decide +kernel) (by decide +kernel)

/-! LoopLane$Act -/
def RX5 : String := "LoopLane$Act"
abbrev cX5_init : ByteArray := prog_2_method_1_code
def yX5_init : MethodName := ⟨RX5, "<init>", "()V"⟩
abbrev cX5_begin : ByteArray := prog_2_method_6_code
def yX5_begin : MethodName := ⟨RX5, "begin", "(I)V"⟩
abbrev cX5_slot : ByteArray := prog_2_method_4_code
def yX5_slot : MethodName := ⟨RX5, "slot", "()I"⟩
abbrev cX5_isRefused : ByteArray := prog_2_method_5_code
def yX5_isRefused : MethodName := ⟨RX5, "isRefused", "()Z"⟩
abbrev cX5_take : ByteArray := prog_2_method_7_code
def yX5_take : MethodName := ⟨RX5, "take", "(III)V"⟩
abbrev cX5_bits : ByteArray := prog_2_method_8_code
def yX5_bits : MethodName := ⟨RX5, "bits", "()I"⟩
theorem q81 : (Jvm.Cond.initialized "LoopLane$Act") ∈ lw_all := lw_g (lw_at lw_m1 9 rfl) rfl
theorem q280 : (Jvm.Cond.instanceMethod ({ cls := "LoopLane$Act", name := "<init>", desc := "()V" } : Jvm.MethodName)) ∈ lw_all := lw_g (lw_at lw_m1 208 rfl) rfl
theorem q281 : (Jvm.Cond.code ({ cls := "LoopLane$Act", name := "<init>", desc := "()V" } : Jvm.MethodName) prog_2_method_1_code (1 : Nat) (Option.none : Option Jvm.ClassFile.FieldType)) ∈ lw_all := lw_g (lw_at lw_m1 209 rfl) rfl
theorem q282 : (Jvm.Cond.methodLink "LoopLane$Act" (3 : Nat) ({ cls := "java/lang/Object", name := "<init>", desc := "()V" } : Jvm.MethodName)) ∈ lw_all := lw_g (lw_at lw_m1 210 rfl) rfl
theorem q285 : (Jvm.Cond.fieldLink "LoopLane$Act" (18 : Nat) "LoopLane$Act" "lag" "I") ∈ lw_all := lw_g (lw_at lw_m1 213 rfl) rfl
theorem q287 : (Jvm.Cond.fieldLink "LoopLane$Act" (22 : Nat) "LoopLane$Act" "unit" "I") ∈ lw_all := lw_g (lw_at lw_m1 215 rfl) rfl
theorem q289 : (Jvm.Cond.fieldLink "LoopLane$Act" (25 : Nat) "LoopLane$Act" "pattern" "I") ∈ lw_all := lw_g (lw_at lw_m1 217 rfl) rfl
theorem q291 : (Jvm.Cond.fieldLink "LoopLane$Act" (28 : Nat) "LoopLane$Act" "first" "J") ∈ lw_all := lw_g (lw_at lw_m1 219 rfl) rfl
theorem q293 : (Jvm.Cond.fieldLink "LoopLane$Act" (32 : Nat) "LoopLane$Act" "many" "I") ∈ lw_all := lw_g (lw_at lw_m1 221 rfl) rfl
theorem q295 : (Jvm.Cond.fieldLink "LoopLane$Act" (9 : Nat) "LoopLane$Act" "of" "[I") ∈ lw_all := lw_g (lw_at lw_m1 223 rfl) rfl
theorem q297 : (Jvm.Cond.fieldLink "LoopLane$Act" (15 : Nat) "LoopLane$Act" "back" "[I") ∈ lw_all := lw_g (lw_at lw_m1 225 rfl) rfl
theorem q302 : (Jvm.Cond.soleField "LoopLane$Act" "lag") ∈ lw_all := lw_g (lw_at lw_m1 230 rfl) rfl
theorem q304 : (Jvm.Cond.soleField "LoopLane$Act" "unit") ∈ lw_all := lw_g (lw_at lw_m1 232 rfl) rfl
theorem q306 : (Jvm.Cond.soleField "LoopLane$Act" "pattern") ∈ lw_all := lw_g (lw_at lw_m1 234 rfl) rfl
theorem q308 : (Jvm.Cond.soleField "LoopLane$Act" "first") ∈ lw_all := lw_g (lw_at lw_m1 236 rfl) rfl
theorem q310 : (Jvm.Cond.soleField "LoopLane$Act" "many") ∈ lw_all := lw_g (lw_at lw_m1 238 rfl) rfl
theorem q312 : (Jvm.Cond.soleField "LoopLane$Act" "of") ∈ lw_all := lw_g (lw_at lw_m2 0 rfl) rfl
theorem q314 : (Jvm.Cond.soleField "LoopLane$Act" "back") ∈ lw_all := lw_g (lw_at lw_m2 2 rfl) rfl
theorem q555 : (Jvm.Cond.declares ({ cls := "LoopLane$Act", name := "begin", desc := "(I)V" } : Jvm.MethodName)) ∈ lw_tbl := lw_at lw_m3 3 rfl
theorem q557 : (Jvm.Cond.instanceMethod ({ cls := "LoopLane$Act", name := "begin", desc := "(I)V" } : Jvm.MethodName)) ∈ lw_all := lw_g (lw_at lw_m3 5 rfl) rfl
theorem q558 : (Jvm.Cond.code ({ cls := "LoopLane$Act", name := "begin", desc := "(I)V" } : Jvm.MethodName) prog_2_method_6_code (2 : Nat) (Option.none : Option Jvm.ClassFile.FieldType)) ∈ lw_all := lw_g (lw_at lw_m3 6 rfl) rfl
theorem q576 : (Jvm.Cond.instanceMethod ({ cls := "LoopLane$Act", name := "slot", desc := "()I" } : Jvm.MethodName)) ∈ lw_all := lw_g (lw_at lw_m3 24 rfl) rfl
theorem q577 : (Jvm.Cond.sameMethod "LoopLane$Act" "LoopLane$Act" "slot" "()I") ∈ lw_all := lw_g (lw_at lw_m3 25 rfl) rfl
theorem q587 : (Jvm.Cond.code ({ cls := "LoopLane$Act", name := "slot", desc := "()I" } : Jvm.MethodName) prog_2_method_4_code (1 : Nat) (Option.some Jvm.ClassFile.FieldType.int)) ∈ lw_all := lw_g (lw_at lw_m3 35 rfl) rfl
theorem q593 : (Jvm.Cond.declares ({ cls := "LoopLane$Act", name := "sort", desc := "()I" } : Jvm.MethodName)) ∈ lw_tbl := lw_at lw_m3 41 rfl
theorem q594 : (Jvm.Cond.sameMethod "LoopLane$Act" "LoopLane$Act" "sort" "()I") ∈ lw_all := lw_g (lw_at lw_m3 42 rfl) rfl
theorem q623 : (Jvm.Cond.instanceMethod ({ cls := "LoopLane$Act", name := "isRefused", desc := "()Z" } : Jvm.MethodName)) ∈ lw_all := lw_g (lw_at lw_m3 71 rfl) rfl
theorem q624 : (Jvm.Cond.sameMethod "LoopLane$Act" "LoopLane$Act" "isRefused" "()Z") ∈ lw_all := lw_g (lw_at lw_m3 72 rfl) rfl
theorem q636 : (Jvm.Cond.code ({ cls := "LoopLane$Act", name := "isRefused", desc := "()Z" } : Jvm.MethodName) prog_2_method_5_code (1 : Nat) (Option.some Jvm.ClassFile.FieldType.boolean)) ∈ lw_all := lw_g (lw_at lw_m3 84 rfl) rfl
theorem q665 : (Jvm.Cond.instanceMethod ({ cls := "LoopLane$Act", name := "take", desc := "(III)V" } : Jvm.MethodName)) ∈ lw_all := lw_g (lw_at lw_m3 113 rfl) rfl
theorem q666 : (Jvm.Cond.sameMethod "LoopLane$Act" "LoopLane$Act" "take" "(III)V") ∈ lw_all := lw_g (lw_at lw_m3 114 rfl) rfl
theorem q674 : (Jvm.Cond.code ({ cls := "LoopLane$Act", name := "take", desc := "(III)V" } : Jvm.MethodName) prog_2_method_7_code (4 : Nat) (Option.none : Option Jvm.ClassFile.FieldType)) ∈ lw_all := lw_g (lw_at lw_m3 122 rfl) rfl
theorem q686 : (Jvm.Cond.declares ({ cls := "LoopLane$Act", name := "take", desc := "(III)V" } : Jvm.MethodName)) ∈ lw_tbl := lw_at lw_m3 134 rfl
theorem q883 : (Jvm.Cond.instanceMethod ({ cls := "LoopLane$Act", name := "bits", desc := "()I" } : Jvm.MethodName)) ∈ lw_all := lw_g (lw_at lw_m4 91 rfl) rfl
theorem q884 : (Jvm.Cond.sameMethod "LoopLane$Act" "LoopLane$Act" "bits" "()I") ∈ lw_all := lw_g (lw_at lw_m4 92 rfl) rfl
theorem q892 : (Jvm.Cond.code ({ cls := "LoopLane$Act", name := "bits", desc := "()I" } : Jvm.MethodName) prog_2_method_8_code (1 : Nat) (Option.some Jvm.ClassFile.FieldType.int)) ∈ lw_all := lw_g (lw_at lw_m4 100 rfl) rfl
theorem q893 : (Jvm.Cond.methodLink "LoopLane$Act" (35 : Nat) ({ cls := "java/lang/Integer", name := "bitCount", desc := "(I)I" } : Jvm.MethodName)) ∈ lw_all := lw_g (lw_at lw_m4 101 rfl) rfl
theorem q1047 : (Jvm.Cond.declares ({ cls := "LoopLane$Act", name := "work", desc := "(LLoopLane$Lane;JJJ)J" } : Jvm.MethodName)) ∈ lw_tbl := lw_at lw_m5 15 rfl
theorem q1048 : (Jvm.Cond.sameMethod "LoopLane$Act" "LoopLane$Act" "work" "(LLoopLane$Lane;JJJ)J") ∈ lw_all := lw_g (lw_at lw_m5 16 rfl) rfl
theorem q1573 : (Jvm.Cond.sameMethod "LoopLane$Act" "LoopLane$Act" "begin" "(I)V") ∈ lw_all := lw_g (lw_at lw_m7 61 rfl) rfl

/-! LoopLane$Put -/
def RX6 : String := "LoopLane$Put"
def TX6 : u_T := fun k => match k with
  | 0 => ("LoopLane$Act", "lag", "I", false)
  | 1 => ("LoopLane$Act", "unit", "I", false)
  | 2 => ("LoopLane$Act", "pattern", "I", false)
  | 3 => ("LoopLane$Act", "first", "J", false)
  | 4 => ("LoopLane$Act", "many", "I", false)
  | 5 => ("LoopLane$Act", "of", "[I", true)
  | 6 => ("LoopLane$Act", "back", "[I", true)
  | _ => ("LoopLane$Put", "number", "J", false)
def tyX6 : Nat → FieldType := fun k => match k with
  | 0 => .int
  | 1 => .int
  | 2 => .int
  | 3 => .long
  | 4 => .int
  | 5 => .array .int
  | 6 => .array .int
  | _ => .long
abbrev wsX60 : List Cond := u_ws RX6 TX6 8
theorem nmX6 : ∀ a, a < 8 → ∀ b, b < 8 → a ≠ b → (TX6 a).2.1 ≠ (TX6 b).2.1 := by decide +kernel
theorem tyX6_ok : ∀ k, k < 8 → parseFieldDescriptor (TX6 k).2.2.1 = some (tyX6 k) := by decide +kernel
abbrev cX6_init : ByteArray := prog_7_method_1_code
def yX6_init : MethodName := ⟨RX6, "<init>", "()V"⟩
abbrev cX6_sort : ByteArray := prog_7_method_2_code
def yX6_sort : MethodName := ⟨RX6, "sort", "()I"⟩
abbrev cX6_work : ByteArray := prog_7_method_3_code
def yX6_work : MethodName := ⟨RX6, "work", "(LLoopLane$Lane;JJJ)J"⟩
theorem q82 : (Jvm.Cond.initialized "LoopLane$Put") ∈ lw_all := lw_g (lw_at lw_m1 10 rfl) rfl
theorem q275 : (Jvm.Cond.instantiable "LoopLane$Put" (8 : Nat)) ∈ lw_all := lw_g (lw_at lw_m1 203 rfl) rfl
theorem q277 : (Jvm.Cond.instanceMethod ({ cls := "LoopLane$Put", name := "<init>", desc := "()V" } : Jvm.MethodName)) ∈ lw_all := lw_g (lw_at lw_m1 205 rfl) rfl
theorem q278 : (Jvm.Cond.code ({ cls := "LoopLane$Put", name := "<init>", desc := "()V" } : Jvm.MethodName) prog_7_method_1_code (1 : Nat) (Option.none : Option Jvm.ClassFile.FieldType)) ∈ lw_all := lw_g (lw_at lw_m1 206 rfl) rfl
theorem q279 : (Jvm.Cond.methodLinkNest "LoopLane$Put" (3 : Nat) ({ cls := "LoopLane$Act", name := "<init>", desc := "()V" } : Jvm.MethodName) "LoopLane") ∈ lw_tbl := lw_at lw_m1 207 rfl
theorem q283 : (Jvm.Cond.fieldLink "LoopLane$Put" (9 : Nat) "LoopLane$Put" "number" "J") ∈ lw_all := lw_g (lw_at lw_m1 211 rfl) rfl
theorem q299 : (Jvm.Cond.lays "LoopLane$Put" "LoopLane$Put" "number" "J") ∈ lw_all := lw_g (lw_at lw_m1 227 rfl) rfl
theorem q300 : (Jvm.Cond.soleField "LoopLane$Put" "number") ∈ lw_all := lw_g (lw_at lw_m1 228 rfl) rfl
theorem q301 : (Jvm.Cond.lays "LoopLane$Put" "LoopLane$Act" "lag" "I") ∈ lw_all := lw_g (lw_at lw_m1 229 rfl) rfl
theorem q303 : (Jvm.Cond.lays "LoopLane$Put" "LoopLane$Act" "unit" "I") ∈ lw_all := lw_g (lw_at lw_m1 231 rfl) rfl
theorem q305 : (Jvm.Cond.lays "LoopLane$Put" "LoopLane$Act" "pattern" "I") ∈ lw_all := lw_g (lw_at lw_m1 233 rfl) rfl
theorem q307 : (Jvm.Cond.lays "LoopLane$Put" "LoopLane$Act" "first" "J") ∈ lw_all := lw_g (lw_at lw_m1 235 rfl) rfl
theorem q309 : (Jvm.Cond.lays "LoopLane$Put" "LoopLane$Act" "many" "I") ∈ lw_all := lw_g (lw_at lw_m1 237 rfl) rfl
theorem q311 : (Jvm.Cond.laysFinal "LoopLane$Put" "LoopLane$Act" "of" "[I") ∈ lw_all := lw_g (lw_at lw_m1 239 rfl) rfl
theorem q313 : (Jvm.Cond.laysFinal "LoopLane$Put" "LoopLane$Act" "back" "[I") ∈ lw_all := lw_g (lw_at lw_m2 1 rfl) rfl
theorem q315 : (Jvm.Cond.superclass "LoopLane$Put" "LoopLane$Act") ∈ lw_all := lw_g (lw_at lw_m2 3 rfl) rfl
theorem q554 : (Jvm.Cond.sameMethod "LoopLane$Put" "LoopLane$Act" "begin" "(I)V") ∈ lw_all := lw_g (lw_at lw_m3 2 rfl) rfl
theorem q556 : (Jvm.Cond.selects "LoopLane$Put" ({ cls := "LoopLane$Put", name := "begin", desc := "(I)V" } : Jvm.MethodName) ({ cls := "LoopLane$Act", name := "begin", desc := "(I)V" } : Jvm.MethodName)) ∈ lw_all := lw_g (lw_at lw_m3 4 rfl) rfl
theorem q583 : (Jvm.Cond.selects "LoopLane$Put" ({ cls := "LoopLane$Act", name := "slot", desc := "()I" } : Jvm.MethodName) ({ cls := "LoopLane$Act", name := "slot", desc := "()I" } : Jvm.MethodName)) ∈ lw_all := lw_g (lw_at lw_m3 31 rfl) rfl
theorem q604 : (Jvm.Cond.selects "LoopLane$Put" ({ cls := "LoopLane$Act", name := "sort", desc := "()I" } : Jvm.MethodName) ({ cls := "LoopLane$Put", name := "sort", desc := "()I" } : Jvm.MethodName)) ∈ lw_all := lw_g (lw_at lw_m3 52 rfl) rfl
theorem q605 : (Jvm.Cond.instanceMethod ({ cls := "LoopLane$Put", name := "sort", desc := "()I" } : Jvm.MethodName)) ∈ lw_all := lw_g (lw_at lw_m3 53 rfl) rfl
theorem q606 : (Jvm.Cond.code ({ cls := "LoopLane$Put", name := "sort", desc := "()I" } : Jvm.MethodName) prog_7_method_2_code (1 : Nat) (Option.some Jvm.ClassFile.FieldType.int)) ∈ lw_all := lw_g (lw_at lw_m3 54 rfl) rfl
theorem q632 : (Jvm.Cond.selects "LoopLane$Put" ({ cls := "LoopLane$Act", name := "isRefused", desc := "()Z" } : Jvm.MethodName) ({ cls := "LoopLane$Act", name := "isRefused", desc := "()Z" } : Jvm.MethodName)) ∈ lw_all := lw_g (lw_at lw_m3 80 rfl) rfl
theorem q670 : (Jvm.Cond.selects "LoopLane$Put" ({ cls := "LoopLane$Act", name := "take", desc := "(III)V" } : Jvm.MethodName) ({ cls := "LoopLane$Act", name := "take", desc := "(III)V" } : Jvm.MethodName)) ∈ lw_all := lw_g (lw_at lw_m3 118 rfl) rfl
theorem q888 : (Jvm.Cond.selects "LoopLane$Put" ({ cls := "LoopLane$Act", name := "bits", desc := "()I" } : Jvm.MethodName) ({ cls := "LoopLane$Act", name := "bits", desc := "()I" } : Jvm.MethodName)) ∈ lw_all := lw_g (lw_at lw_m4 96 rfl) rfl
theorem q1063 : (Jvm.Cond.selects "LoopLane$Put" ({ cls := "LoopLane$Act", name := "work", desc := "(LLoopLane$Lane;JJJ)J" } : Jvm.MethodName) ({ cls := "LoopLane$Put", name := "work", desc := "(LLoopLane$Lane;JJJ)J" } : Jvm.MethodName)) ∈ lw_all := lw_g (lw_at lw_m5 31 rfl) rfl
theorem q1064 : (Jvm.Cond.instanceMethod ({ cls := "LoopLane$Put", name := "work", desc := "(LLoopLane$Lane;JJJ)J" } : Jvm.MethodName)) ∈ lw_all := lw_g (lw_at lw_m5 32 rfl) rfl
theorem q1065 : (Jvm.Cond.code ({ cls := "LoopLane$Put", name := "work", desc := "(LLoopLane$Lane;JJJ)J" } : Jvm.MethodName) prog_7_method_3_code (8 : Nat) (Option.some Jvm.ClassFile.FieldType.long)) ∈ lw_all := lw_g (lw_at lw_m5 33 rfl) rfl
theorem q1577 : (Jvm.Cond.selects "LoopLane$Put" ({ cls := "LoopLane$Act", name := "begin", desc := "(I)V" } : Jvm.MethodName) ({ cls := "LoopLane$Act", name := "begin", desc := "(I)V" } : Jvm.MethodName)) ∈ lw_all := lw_g (lw_at lw_m7 65 rfl) rfl
theorem q1583 : (Jvm.Cond.castable "LoopLane$Put" "LoopLane$Act") ∈ lw_tbl := lw_at lw_m7 71 rfl
theorem in_X6 : ∀ w ∈ wsX60, w ∈ lw_all := lw_in wsX60 [301, 303, 305, 307, 309, 311, 313, 299] (by decide +kernel) (by decide +kernel)

/-! LoopLane$Sum -/
def RX7 : String := "LoopLane$Sum"
def TX7 : u_T := fun k => match k with
  | 0 => ("LoopLane$Act", "lag", "I", false)
  | 1 => ("LoopLane$Act", "unit", "I", false)
  | 2 => ("LoopLane$Act", "pattern", "I", false)
  | 3 => ("LoopLane$Act", "first", "J", false)
  | 4 => ("LoopLane$Act", "many", "I", false)
  | 5 => ("LoopLane$Act", "of", "[I", true)
  | _ => ("LoopLane$Act", "back", "[I", true)
def tyX7 : Nat → FieldType := fun k => match k with
  | 0 => .int
  | 1 => .int
  | 2 => .int
  | 3 => .long
  | 4 => .int
  | 5 => .array .int
  | _ => .array .int
abbrev wsX70 : List Cond := u_ws RX7 TX7 7
theorem nmX7 : ∀ a, a < 7 → ∀ b, b < 7 → a ≠ b → (TX7 a).2.1 ≠ (TX7 b).2.1 := by decide +kernel
theorem tyX7_ok : ∀ k, k < 7 → parseFieldDescriptor (TX7 k).2.2.1 = some (tyX7 k) := by decide +kernel
abbrev cX7_init : ByteArray := prog_12_method_1_code
def yX7_init : MethodName := ⟨RX7, "<init>", "()V"⟩
abbrev cX7_sort : ByteArray := prog_12_method_2_code
def yX7_sort : MethodName := ⟨RX7, "sort", "()I"⟩
abbrev cX7_work : ByteArray := prog_12_method_3_code
def yX7_work : MethodName := ⟨RX7, "work", "(LLoopLane$Lane;JJJ)J"⟩
theorem q83 : (Jvm.Cond.initialized "LoopLane$Sum") ∈ lw_all := lw_g (lw_at lw_m1 11 rfl) rfl
theorem q316 : (Jvm.Cond.instantiable "LoopLane$Sum" (7 : Nat)) ∈ lw_all := lw_g (lw_at lw_m2 4 rfl) rfl
theorem q318 : (Jvm.Cond.instanceMethod ({ cls := "LoopLane$Sum", name := "<init>", desc := "()V" } : Jvm.MethodName)) ∈ lw_all := lw_g (lw_at lw_m2 6 rfl) rfl
theorem q319 : (Jvm.Cond.code ({ cls := "LoopLane$Sum", name := "<init>", desc := "()V" } : Jvm.MethodName) prog_12_method_1_code (1 : Nat) (Option.none : Option Jvm.ClassFile.FieldType)) ∈ lw_all := lw_g (lw_at lw_m2 7 rfl) rfl
theorem q320 : (Jvm.Cond.methodLinkNest "LoopLane$Sum" (3 : Nat) ({ cls := "LoopLane$Act", name := "<init>", desc := "()V" } : Jvm.MethodName) "LoopLane") ∈ lw_tbl := lw_at lw_m2 8 rfl
theorem q321 : (Jvm.Cond.lays "LoopLane$Sum" "LoopLane$Act" "lag" "I") ∈ lw_all := lw_g (lw_at lw_m2 9 rfl) rfl
theorem q322 : (Jvm.Cond.lays "LoopLane$Sum" "LoopLane$Act" "unit" "I") ∈ lw_all := lw_g (lw_at lw_m2 10 rfl) rfl
theorem q323 : (Jvm.Cond.lays "LoopLane$Sum" "LoopLane$Act" "pattern" "I") ∈ lw_all := lw_g (lw_at lw_m2 11 rfl) rfl
theorem q324 : (Jvm.Cond.lays "LoopLane$Sum" "LoopLane$Act" "first" "J") ∈ lw_all := lw_g (lw_at lw_m2 12 rfl) rfl
theorem q325 : (Jvm.Cond.lays "LoopLane$Sum" "LoopLane$Act" "many" "I") ∈ lw_all := lw_g (lw_at lw_m2 13 rfl) rfl
theorem q326 : (Jvm.Cond.laysFinal "LoopLane$Sum" "LoopLane$Act" "of" "[I") ∈ lw_all := lw_g (lw_at lw_m2 14 rfl) rfl
theorem q327 : (Jvm.Cond.laysFinal "LoopLane$Sum" "LoopLane$Act" "back" "[I") ∈ lw_all := lw_g (lw_at lw_m2 15 rfl) rfl
theorem q328 : (Jvm.Cond.superclass "LoopLane$Sum" "LoopLane$Act") ∈ lw_all := lw_g (lw_at lw_m2 16 rfl) rfl
theorem q585 : (Jvm.Cond.selects "LoopLane$Sum" ({ cls := "LoopLane$Act", name := "slot", desc := "()I" } : Jvm.MethodName) ({ cls := "LoopLane$Act", name := "slot", desc := "()I" } : Jvm.MethodName)) ∈ lw_all := lw_g (lw_at lw_m3 33 rfl) rfl
theorem q611 : (Jvm.Cond.selects "LoopLane$Sum" ({ cls := "LoopLane$Act", name := "sort", desc := "()I" } : Jvm.MethodName) ({ cls := "LoopLane$Sum", name := "sort", desc := "()I" } : Jvm.MethodName)) ∈ lw_all := lw_g (lw_at lw_m3 59 rfl) rfl
theorem q612 : (Jvm.Cond.instanceMethod ({ cls := "LoopLane$Sum", name := "sort", desc := "()I" } : Jvm.MethodName)) ∈ lw_all := lw_g (lw_at lw_m3 60 rfl) rfl
theorem q613 : (Jvm.Cond.code ({ cls := "LoopLane$Sum", name := "sort", desc := "()I" } : Jvm.MethodName) prog_12_method_2_code (1 : Nat) (Option.some Jvm.ClassFile.FieldType.int)) ∈ lw_all := lw_g (lw_at lw_m3 61 rfl) rfl
theorem q634 : (Jvm.Cond.selects "LoopLane$Sum" ({ cls := "LoopLane$Act", name := "isRefused", desc := "()Z" } : Jvm.MethodName) ({ cls := "LoopLane$Act", name := "isRefused", desc := "()Z" } : Jvm.MethodName)) ∈ lw_all := lw_g (lw_at lw_m3 82 rfl) rfl
theorem q672 : (Jvm.Cond.selects "LoopLane$Sum" ({ cls := "LoopLane$Act", name := "take", desc := "(III)V" } : Jvm.MethodName) ({ cls := "LoopLane$Act", name := "take", desc := "(III)V" } : Jvm.MethodName)) ∈ lw_all := lw_g (lw_at lw_m3 120 rfl) rfl
theorem q890 : (Jvm.Cond.selects "LoopLane$Sum" ({ cls := "LoopLane$Act", name := "bits", desc := "()I" } : Jvm.MethodName) ({ cls := "LoopLane$Act", name := "bits", desc := "()I" } : Jvm.MethodName)) ∈ lw_all := lw_g (lw_at lw_m4 98 rfl) rfl
theorem q1077 : (Jvm.Cond.selects "LoopLane$Sum" ({ cls := "LoopLane$Act", name := "work", desc := "(LLoopLane$Lane;JJJ)J" } : Jvm.MethodName) ({ cls := "LoopLane$Sum", name := "work", desc := "(LLoopLane$Lane;JJJ)J" } : Jvm.MethodName)) ∈ lw_all := lw_g (lw_at lw_m5 45 rfl) rfl
theorem q1078 : (Jvm.Cond.instanceMethod ({ cls := "LoopLane$Sum", name := "work", desc := "(LLoopLane$Lane;JJJ)J" } : Jvm.MethodName)) ∈ lw_all := lw_g (lw_at lw_m5 46 rfl) rfl
theorem q1079 : (Jvm.Cond.code ({ cls := "LoopLane$Sum", name := "work", desc := "(LLoopLane$Lane;JJJ)J" } : Jvm.MethodName) prog_12_method_3_code (8 : Nat) (Option.some Jvm.ClassFile.FieldType.long)) ∈ lw_all := lw_g (lw_at lw_m5 47 rfl) rfl
theorem q1572 : (Jvm.Cond.sameMethod "LoopLane$Sum" "LoopLane$Sum" "sort" "()I") ∈ lw_all := lw_g (lw_at lw_m7 60 rfl) rfl
theorem q1579 : (Jvm.Cond.selects "LoopLane$Sum" ({ cls := "LoopLane$Act", name := "begin", desc := "(I)V" } : Jvm.MethodName) ({ cls := "LoopLane$Act", name := "begin", desc := "(I)V" } : Jvm.MethodName)) ∈ lw_all := lw_g (lw_at lw_m7 67 rfl) rfl
theorem q1584 : (Jvm.Cond.castable "LoopLane$Sum" "LoopLane$Act") ∈ lw_tbl := lw_at lw_m7 72 rfl
theorem in_X7 : ∀ w ∈ wsX70, w ∈ lw_all := lw_in wsX70 [321, 322, 323, 324, 325, 326, 327] (by decide +kernel) (by decide +kernel)

/-! LoopLane$Times -/
def RX8 : String := "LoopLane$Times"
def TX8 : u_T := fun k => match k with
  | 0 => ("LoopLane$Act", "lag", "I", false)
  | 1 => ("LoopLane$Act", "unit", "I", false)
  | 2 => ("LoopLane$Act", "pattern", "I", false)
  | 3 => ("LoopLane$Act", "first", "J", false)
  | 4 => ("LoopLane$Act", "many", "I", false)
  | 5 => ("LoopLane$Act", "of", "[I", true)
  | _ => ("LoopLane$Act", "back", "[I", true)
def tyX8 : Nat → FieldType := fun k => match k with
  | 0 => .int
  | 1 => .int
  | 2 => .int
  | 3 => .long
  | 4 => .int
  | 5 => .array .int
  | _ => .array .int
abbrev wsX80 : List Cond := u_ws RX8 TX8 7
theorem nmX8 : ∀ a, a < 7 → ∀ b, b < 7 → a ≠ b → (TX8 a).2.1 ≠ (TX8 b).2.1 := by decide +kernel
theorem tyX8_ok : ∀ k, k < 7 → parseFieldDescriptor (TX8 k).2.2.1 = some (tyX8 k) := by decide +kernel
abbrev cX8_init : ByteArray := prog_13_method_1_code
def yX8_init : MethodName := ⟨RX8, "<init>", "()V"⟩
abbrev cX8_sort : ByteArray := prog_13_method_2_code
def yX8_sort : MethodName := ⟨RX8, "sort", "()I"⟩
abbrev cX8_work : ByteArray := prog_13_method_3_code
def yX8_work : MethodName := ⟨RX8, "work", "(LLoopLane$Lane;JJJ)J"⟩
theorem q84 : (Jvm.Cond.initialized "LoopLane$Times") ∈ lw_all := lw_g (lw_at lw_m1 12 rfl) rfl
theorem q329 : (Jvm.Cond.instantiable "LoopLane$Times" (7 : Nat)) ∈ lw_all := lw_g (lw_at lw_m2 17 rfl) rfl
theorem q331 : (Jvm.Cond.instanceMethod ({ cls := "LoopLane$Times", name := "<init>", desc := "()V" } : Jvm.MethodName)) ∈ lw_all := lw_g (lw_at lw_m2 19 rfl) rfl
theorem q332 : (Jvm.Cond.code ({ cls := "LoopLane$Times", name := "<init>", desc := "()V" } : Jvm.MethodName) prog_13_method_1_code (1 : Nat) (Option.none : Option Jvm.ClassFile.FieldType)) ∈ lw_all := lw_g (lw_at lw_m2 20 rfl) rfl
theorem q333 : (Jvm.Cond.methodLinkNest "LoopLane$Times" (1 : Nat) ({ cls := "LoopLane$Sum", name := "<init>", desc := "()V" } : Jvm.MethodName) "LoopLane") ∈ lw_tbl := lw_at lw_m2 21 rfl
theorem q334 : (Jvm.Cond.lays "LoopLane$Times" "LoopLane$Act" "lag" "I") ∈ lw_all := lw_g (lw_at lw_m2 22 rfl) rfl
theorem q335 : (Jvm.Cond.lays "LoopLane$Times" "LoopLane$Act" "unit" "I") ∈ lw_all := lw_g (lw_at lw_m2 23 rfl) rfl
theorem q336 : (Jvm.Cond.lays "LoopLane$Times" "LoopLane$Act" "pattern" "I") ∈ lw_all := lw_g (lw_at lw_m2 24 rfl) rfl
theorem q337 : (Jvm.Cond.lays "LoopLane$Times" "LoopLane$Act" "first" "J") ∈ lw_all := lw_g (lw_at lw_m2 25 rfl) rfl
theorem q338 : (Jvm.Cond.lays "LoopLane$Times" "LoopLane$Act" "many" "I") ∈ lw_all := lw_g (lw_at lw_m2 26 rfl) rfl
theorem q339 : (Jvm.Cond.laysFinal "LoopLane$Times" "LoopLane$Act" "of" "[I") ∈ lw_all := lw_g (lw_at lw_m2 27 rfl) rfl
theorem q340 : (Jvm.Cond.laysFinal "LoopLane$Times" "LoopLane$Act" "back" "[I") ∈ lw_all := lw_g (lw_at lw_m2 28 rfl) rfl
theorem q341 : (Jvm.Cond.superclass "LoopLane$Times" "LoopLane$Sum") ∈ lw_all := lw_g (lw_at lw_m2 29 rfl) rfl
theorem q586 : (Jvm.Cond.selects "LoopLane$Times" ({ cls := "LoopLane$Act", name := "slot", desc := "()I" } : Jvm.MethodName) ({ cls := "LoopLane$Act", name := "slot", desc := "()I" } : Jvm.MethodName)) ∈ lw_all := lw_g (lw_at lw_m3 34 rfl) rfl
theorem q614 : (Jvm.Cond.selects "LoopLane$Times" ({ cls := "LoopLane$Act", name := "sort", desc := "()I" } : Jvm.MethodName) ({ cls := "LoopLane$Times", name := "sort", desc := "()I" } : Jvm.MethodName)) ∈ lw_all := lw_g (lw_at lw_m3 62 rfl) rfl
theorem q615 : (Jvm.Cond.instanceMethod ({ cls := "LoopLane$Times", name := "sort", desc := "()I" } : Jvm.MethodName)) ∈ lw_all := lw_g (lw_at lw_m3 63 rfl) rfl
theorem q616 : (Jvm.Cond.code ({ cls := "LoopLane$Times", name := "sort", desc := "()I" } : Jvm.MethodName) prog_13_method_2_code (1 : Nat) (Option.some Jvm.ClassFile.FieldType.int)) ∈ lw_all := lw_g (lw_at lw_m3 64 rfl) rfl
theorem q617 : (Jvm.Cond.methodLink "LoopLane$Times" (7 : Nat) ({ cls := "LoopLane$Sum", name := "sort", desc := "()I" } : Jvm.MethodName)) ∈ lw_all := lw_g (lw_at lw_m3 65 rfl) rfl
theorem q635 : (Jvm.Cond.selects "LoopLane$Times" ({ cls := "LoopLane$Act", name := "isRefused", desc := "()Z" } : Jvm.MethodName) ({ cls := "LoopLane$Act", name := "isRefused", desc := "()Z" } : Jvm.MethodName)) ∈ lw_all := lw_g (lw_at lw_m3 83 rfl) rfl
theorem q673 : (Jvm.Cond.selects "LoopLane$Times" ({ cls := "LoopLane$Act", name := "take", desc := "(III)V" } : Jvm.MethodName) ({ cls := "LoopLane$Act", name := "take", desc := "(III)V" } : Jvm.MethodName)) ∈ lw_all := lw_g (lw_at lw_m3 121 rfl) rfl
theorem q891 : (Jvm.Cond.selects "LoopLane$Times" ({ cls := "LoopLane$Act", name := "bits", desc := "()I" } : Jvm.MethodName) ({ cls := "LoopLane$Act", name := "bits", desc := "()I" } : Jvm.MethodName)) ∈ lw_all := lw_g (lw_at lw_m4 99 rfl) rfl
theorem q1080 : (Jvm.Cond.selects "LoopLane$Times" ({ cls := "LoopLane$Act", name := "work", desc := "(LLoopLane$Lane;JJJ)J" } : Jvm.MethodName) ({ cls := "LoopLane$Times", name := "work", desc := "(LLoopLane$Lane;JJJ)J" } : Jvm.MethodName)) ∈ lw_all := lw_g (lw_at lw_m5 48 rfl) rfl
theorem q1081 : (Jvm.Cond.instanceMethod ({ cls := "LoopLane$Times", name := "work", desc := "(LLoopLane$Lane;JJJ)J" } : Jvm.MethodName)) ∈ lw_all := lw_g (lw_at lw_m5 49 rfl) rfl
theorem q1082 : (Jvm.Cond.code ({ cls := "LoopLane$Times", name := "work", desc := "(LLoopLane$Lane;JJJ)J" } : Jvm.MethodName) prog_13_method_3_code (8 : Nat) (Option.some Jvm.ClassFile.FieldType.long)) ∈ lw_all := lw_g (lw_at lw_m5 50 rfl) rfl
theorem q1580 : (Jvm.Cond.selects "LoopLane$Times" ({ cls := "LoopLane$Act", name := "begin", desc := "(I)V" } : Jvm.MethodName) ({ cls := "LoopLane$Act", name := "begin", desc := "(I)V" } : Jvm.MethodName)) ∈ lw_all := lw_g (lw_at lw_m7 68 rfl) rfl
theorem q1585 : (Jvm.Cond.castable "LoopLane$Times" "LoopLane$Act") ∈ lw_tbl := lw_at lw_m7 73 rfl
theorem q1590 : (Jvm.Cond.castable "LoopLane$Times" "LoopLane$Sum") ∈ lw_tbl := lw_at lw_m7 78 rfl
theorem in_X8 : ∀ w ∈ wsX80, w ∈ lw_all := lw_in wsX80 [334, 335, 336, 337, 338, 339, 340] (by decide +kernel) (by decide +kernel)

/-! LoopLane$Over -/
def RX9 : String := "LoopLane$Over"
def TX9 : u_T := fun k => match k with
  | 0 => ("LoopLane$Act", "lag", "I", false)
  | 1 => ("LoopLane$Act", "unit", "I", false)
  | 2 => ("LoopLane$Act", "pattern", "I", false)
  | 3 => ("LoopLane$Act", "first", "J", false)
  | 4 => ("LoopLane$Act", "many", "I", false)
  | 5 => ("LoopLane$Act", "of", "[I", true)
  | _ => ("LoopLane$Act", "back", "[I", true)
def tyX9 : Nat → FieldType := fun k => match k with
  | 0 => .int
  | 1 => .int
  | 2 => .int
  | 3 => .long
  | 4 => .int
  | 5 => .array .int
  | _ => .array .int
abbrev wsX90 : List Cond := u_ws RX9 TX9 7
theorem nmX9 : ∀ a, a < 7 → ∀ b, b < 7 → a ≠ b → (TX9 a).2.1 ≠ (TX9 b).2.1 := by decide +kernel
theorem tyX9_ok : ∀ k, k < 7 → parseFieldDescriptor (TX9 k).2.2.1 = some (tyX9 k) := by decide +kernel
abbrev cX9_init : ByteArray := prog_5_method_1_code
def yX9_init : MethodName := ⟨RX9, "<init>", "()V"⟩
abbrev cX9_sort : ByteArray := prog_5_method_2_code
def yX9_sort : MethodName := ⟨RX9, "sort", "()I"⟩
abbrev cX9_isRefused : ByteArray := prog_5_method_4_code
def yX9_isRefused : MethodName := ⟨RX9, "isRefused", "()Z"⟩
abbrev cX9_work : ByteArray := prog_5_method_3_code
def yX9_work : MethodName := ⟨RX9, "work", "(LLoopLane$Lane;JJJ)J"⟩
theorem q85 : (Jvm.Cond.initialized "LoopLane$Over") ∈ lw_all := lw_g (lw_at lw_m1 13 rfl) rfl
theorem q342 : (Jvm.Cond.instantiable "LoopLane$Over" (7 : Nat)) ∈ lw_all := lw_g (lw_at lw_m2 30 rfl) rfl
theorem q344 : (Jvm.Cond.instanceMethod ({ cls := "LoopLane$Over", name := "<init>", desc := "()V" } : Jvm.MethodName)) ∈ lw_all := lw_g (lw_at lw_m2 32 rfl) rfl
theorem q345 : (Jvm.Cond.code ({ cls := "LoopLane$Over", name := "<init>", desc := "()V" } : Jvm.MethodName) prog_5_method_1_code (1 : Nat) (Option.none : Option Jvm.ClassFile.FieldType)) ∈ lw_all := lw_g (lw_at lw_m2 33 rfl) rfl
theorem q346 : (Jvm.Cond.methodLinkNest "LoopLane$Over" (3 : Nat) ({ cls := "LoopLane$Sum", name := "<init>", desc := "()V" } : Jvm.MethodName) "LoopLane") ∈ lw_tbl := lw_at lw_m2 34 rfl
theorem q347 : (Jvm.Cond.lays "LoopLane$Over" "LoopLane$Act" "lag" "I") ∈ lw_all := lw_g (lw_at lw_m2 35 rfl) rfl
theorem q348 : (Jvm.Cond.lays "LoopLane$Over" "LoopLane$Act" "unit" "I") ∈ lw_all := lw_g (lw_at lw_m2 36 rfl) rfl
theorem q349 : (Jvm.Cond.lays "LoopLane$Over" "LoopLane$Act" "pattern" "I") ∈ lw_all := lw_g (lw_at lw_m2 37 rfl) rfl
theorem q350 : (Jvm.Cond.lays "LoopLane$Over" "LoopLane$Act" "first" "J") ∈ lw_all := lw_g (lw_at lw_m2 38 rfl) rfl
theorem q351 : (Jvm.Cond.lays "LoopLane$Over" "LoopLane$Act" "many" "I") ∈ lw_all := lw_g (lw_at lw_m2 39 rfl) rfl
theorem q352 : (Jvm.Cond.laysFinal "LoopLane$Over" "LoopLane$Act" "of" "[I") ∈ lw_all := lw_g (lw_at lw_m2 40 rfl) rfl
theorem q353 : (Jvm.Cond.laysFinal "LoopLane$Over" "LoopLane$Act" "back" "[I") ∈ lw_all := lw_g (lw_at lw_m2 41 rfl) rfl
theorem q354 : (Jvm.Cond.superclass "LoopLane$Over" "LoopLane$Sum") ∈ lw_all := lw_g (lw_at lw_m2 42 rfl) rfl
theorem q581 : (Jvm.Cond.selects "LoopLane$Over" ({ cls := "LoopLane$Act", name := "slot", desc := "()I" } : Jvm.MethodName) ({ cls := "LoopLane$Act", name := "slot", desc := "()I" } : Jvm.MethodName)) ∈ lw_all := lw_g (lw_at lw_m3 29 rfl) rfl
theorem q598 : (Jvm.Cond.selects "LoopLane$Over" ({ cls := "LoopLane$Act", name := "sort", desc := "()I" } : Jvm.MethodName) ({ cls := "LoopLane$Over", name := "sort", desc := "()I" } : Jvm.MethodName)) ∈ lw_all := lw_g (lw_at lw_m3 46 rfl) rfl
theorem q599 : (Jvm.Cond.instanceMethod ({ cls := "LoopLane$Over", name := "sort", desc := "()I" } : Jvm.MethodName)) ∈ lw_all := lw_g (lw_at lw_m3 47 rfl) rfl
theorem q600 : (Jvm.Cond.code ({ cls := "LoopLane$Over", name := "sort", desc := "()I" } : Jvm.MethodName) prog_5_method_2_code (1 : Nat) (Option.some Jvm.ClassFile.FieldType.int)) ∈ lw_all := lw_g (lw_at lw_m3 48 rfl) rfl
theorem q628 : (Jvm.Cond.selects "LoopLane$Over" ({ cls := "LoopLane$Act", name := "isRefused", desc := "()Z" } : Jvm.MethodName) ({ cls := "LoopLane$Over", name := "isRefused", desc := "()Z" } : Jvm.MethodName)) ∈ lw_all := lw_g (lw_at lw_m3 76 rfl) rfl
theorem q629 : (Jvm.Cond.instanceMethod ({ cls := "LoopLane$Over", name := "isRefused", desc := "()Z" } : Jvm.MethodName)) ∈ lw_all := lw_g (lw_at lw_m3 77 rfl) rfl
theorem q630 : (Jvm.Cond.code ({ cls := "LoopLane$Over", name := "isRefused", desc := "()Z" } : Jvm.MethodName) prog_5_method_4_code (1 : Nat) (Option.some Jvm.ClassFile.FieldType.boolean)) ∈ lw_all := lw_g (lw_at lw_m3 78 rfl) rfl
theorem q668 : (Jvm.Cond.selects "LoopLane$Over" ({ cls := "LoopLane$Act", name := "take", desc := "(III)V" } : Jvm.MethodName) ({ cls := "LoopLane$Act", name := "take", desc := "(III)V" } : Jvm.MethodName)) ∈ lw_all := lw_g (lw_at lw_m3 116 rfl) rfl
theorem q886 : (Jvm.Cond.selects "LoopLane$Over" ({ cls := "LoopLane$Act", name := "bits", desc := "()I" } : Jvm.MethodName) ({ cls := "LoopLane$Act", name := "bits", desc := "()I" } : Jvm.MethodName)) ∈ lw_all := lw_g (lw_at lw_m4 94 rfl) rfl
theorem q1057 : (Jvm.Cond.selects "LoopLane$Over" ({ cls := "LoopLane$Act", name := "work", desc := "(LLoopLane$Lane;JJJ)J" } : Jvm.MethodName) ({ cls := "LoopLane$Over", name := "work", desc := "(LLoopLane$Lane;JJJ)J" } : Jvm.MethodName)) ∈ lw_all := lw_g (lw_at lw_m5 25 rfl) rfl
theorem q1058 : (Jvm.Cond.instanceMethod ({ cls := "LoopLane$Over", name := "work", desc := "(LLoopLane$Lane;JJJ)J" } : Jvm.MethodName)) ∈ lw_all := lw_g (lw_at lw_m5 26 rfl) rfl
theorem q1059 : (Jvm.Cond.code ({ cls := "LoopLane$Over", name := "work", desc := "(LLoopLane$Lane;JJJ)J" } : Jvm.MethodName) prog_5_method_3_code (8 : Nat) (Option.some Jvm.ClassFile.FieldType.long)) ∈ lw_all := lw_g (lw_at lw_m5 27 rfl) rfl
theorem q1575 : (Jvm.Cond.selects "LoopLane$Over" ({ cls := "LoopLane$Act", name := "begin", desc := "(I)V" } : Jvm.MethodName) ({ cls := "LoopLane$Act", name := "begin", desc := "(I)V" } : Jvm.MethodName)) ∈ lw_all := lw_g (lw_at lw_m7 63 rfl) rfl
theorem q1586 : (Jvm.Cond.castable "LoopLane$Over" "LoopLane$Act") ∈ lw_tbl := lw_at lw_m7 74 rfl
theorem q1591 : (Jvm.Cond.castable "LoopLane$Over" "LoopLane$Sum") ∈ lw_tbl := lw_at lw_m7 79 rfl
theorem in_X9 : ∀ w ∈ wsX90, w ∈ lw_all := lw_in wsX90 [347, 348, 349, 350, 351, 352, 353] (by decide +kernel) (by decide +kernel)

/-! LoopLane$Fetch -/
def RX10 : String := "LoopLane$Fetch"
def TX10 : u_T := fun k => match k with
  | 0 => ("LoopLane$Act", "lag", "I", false)
  | 1 => ("LoopLane$Act", "unit", "I", false)
  | 2 => ("LoopLane$Act", "pattern", "I", false)
  | 3 => ("LoopLane$Act", "first", "J", false)
  | 4 => ("LoopLane$Act", "many", "I", false)
  | 5 => ("LoopLane$Act", "of", "[I", true)
  | 6 => ("LoopLane$Act", "back", "[I", true)
  | _ => ("LoopLane$Fetch", "slot", "I", false)
def tyX10 : Nat → FieldType := fun k => match k with
  | 0 => .int
  | 1 => .int
  | 2 => .int
  | 3 => .long
  | 4 => .int
  | 5 => .array .int
  | 6 => .array .int
  | _ => .int
abbrev wsX100 : List Cond := u_ws RX10 TX10 8
theorem nmX10 : ∀ a, a < 8 → ∀ b, b < 8 → a ≠ b → (TX10 a).2.1 ≠ (TX10 b).2.1 := by decide +kernel
theorem tyX10_ok : ∀ k, k < 8 → parseFieldDescriptor (TX10 k).2.2.1 = some (tyX10 k) := by decide +kernel
abbrev cX10_init : ByteArray := prog_3_method_1_code
def yX10_init : MethodName := ⟨RX10, "<init>", "()V"⟩
abbrev cX10_slot : ByteArray := prog_3_method_3_code
def yX10_slot : MethodName := ⟨RX10, "slot", "()I"⟩
abbrev cX10_sort : ByteArray := prog_3_method_2_code
def yX10_sort : MethodName := ⟨RX10, "sort", "()I"⟩
abbrev cX10_isRefused : ByteArray := prog_3_method_6_code
def yX10_isRefused : MethodName := ⟨RX10, "isRefused", "()Z"⟩
abbrev cX10_work : ByteArray := prog_3_method_4_code
def yX10_work : MethodName := ⟨RX10, "work", "(LLoopLane$Lane;JJJ)J"⟩
abbrev cX10_place : ByteArray := prog_3_method_5_code
def yX10_place : MethodName := ⟨RX10, "place", "(J)I"⟩
theorem q86 : (Jvm.Cond.initialized "LoopLane$Fetch") ∈ lw_all := lw_g (lw_at lw_m1 14 rfl) rfl
theorem q355 : (Jvm.Cond.instantiable "LoopLane$Fetch" (8 : Nat)) ∈ lw_all := lw_g (lw_at lw_m2 43 rfl) rfl
theorem q357 : (Jvm.Cond.instanceMethod ({ cls := "LoopLane$Fetch", name := "<init>", desc := "()V" } : Jvm.MethodName)) ∈ lw_all := lw_g (lw_at lw_m2 45 rfl) rfl
theorem q358 : (Jvm.Cond.code ({ cls := "LoopLane$Fetch", name := "<init>", desc := "()V" } : Jvm.MethodName) prog_3_method_1_code (1 : Nat) (Option.none : Option Jvm.ClassFile.FieldType)) ∈ lw_all := lw_g (lw_at lw_m2 46 rfl) rfl
theorem q359 : (Jvm.Cond.methodLinkNest "LoopLane$Fetch" (3 : Nat) ({ cls := "LoopLane$Act", name := "<init>", desc := "()V" } : Jvm.MethodName) "LoopLane") ∈ lw_tbl := lw_at lw_m2 47 rfl
theorem q360 : (Jvm.Cond.fieldLink "LoopLane$Fetch" (9 : Nat) "LoopLane$Fetch" "slot" "I") ∈ lw_all := lw_g (lw_at lw_m2 48 rfl) rfl
theorem q362 : (Jvm.Cond.lays "LoopLane$Fetch" "LoopLane$Fetch" "slot" "I") ∈ lw_all := lw_g (lw_at lw_m2 50 rfl) rfl
theorem q363 : (Jvm.Cond.soleField "LoopLane$Fetch" "slot") ∈ lw_all := lw_g (lw_at lw_m2 51 rfl) rfl
theorem q364 : (Jvm.Cond.lays "LoopLane$Fetch" "LoopLane$Act" "lag" "I") ∈ lw_all := lw_g (lw_at lw_m2 52 rfl) rfl
theorem q365 : (Jvm.Cond.lays "LoopLane$Fetch" "LoopLane$Act" "unit" "I") ∈ lw_all := lw_g (lw_at lw_m2 53 rfl) rfl
theorem q366 : (Jvm.Cond.lays "LoopLane$Fetch" "LoopLane$Act" "pattern" "I") ∈ lw_all := lw_g (lw_at lw_m2 54 rfl) rfl
theorem q367 : (Jvm.Cond.lays "LoopLane$Fetch" "LoopLane$Act" "first" "J") ∈ lw_all := lw_g (lw_at lw_m2 55 rfl) rfl
theorem q368 : (Jvm.Cond.lays "LoopLane$Fetch" "LoopLane$Act" "many" "I") ∈ lw_all := lw_g (lw_at lw_m2 56 rfl) rfl
theorem q369 : (Jvm.Cond.laysFinal "LoopLane$Fetch" "LoopLane$Act" "of" "[I") ∈ lw_all := lw_g (lw_at lw_m2 57 rfl) rfl
theorem q370 : (Jvm.Cond.laysFinal "LoopLane$Fetch" "LoopLane$Act" "back" "[I") ∈ lw_all := lw_g (lw_at lw_m2 58 rfl) rfl
theorem q371 : (Jvm.Cond.superclass "LoopLane$Fetch" "LoopLane$Act") ∈ lw_all := lw_g (lw_at lw_m2 59 rfl) rfl
theorem q578 : (Jvm.Cond.selects "LoopLane$Fetch" ({ cls := "LoopLane$Act", name := "slot", desc := "()I" } : Jvm.MethodName) ({ cls := "LoopLane$Fetch", name := "slot", desc := "()I" } : Jvm.MethodName)) ∈ lw_all := lw_g (lw_at lw_m3 26 rfl) rfl
theorem q579 : (Jvm.Cond.instanceMethod ({ cls := "LoopLane$Fetch", name := "slot", desc := "()I" } : Jvm.MethodName)) ∈ lw_all := lw_g (lw_at lw_m3 27 rfl) rfl
theorem q580 : (Jvm.Cond.code ({ cls := "LoopLane$Fetch", name := "slot", desc := "()I" } : Jvm.MethodName) prog_3_method_3_code (1 : Nat) (Option.some Jvm.ClassFile.FieldType.int)) ∈ lw_all := lw_g (lw_at lw_m3 28 rfl) rfl
theorem q595 : (Jvm.Cond.selects "LoopLane$Fetch" ({ cls := "LoopLane$Act", name := "sort", desc := "()I" } : Jvm.MethodName) ({ cls := "LoopLane$Fetch", name := "sort", desc := "()I" } : Jvm.MethodName)) ∈ lw_all := lw_g (lw_at lw_m3 43 rfl) rfl
theorem q596 : (Jvm.Cond.instanceMethod ({ cls := "LoopLane$Fetch", name := "sort", desc := "()I" } : Jvm.MethodName)) ∈ lw_all := lw_g (lw_at lw_m3 44 rfl) rfl
theorem q597 : (Jvm.Cond.code ({ cls := "LoopLane$Fetch", name := "sort", desc := "()I" } : Jvm.MethodName) prog_3_method_2_code (1 : Nat) (Option.some Jvm.ClassFile.FieldType.int)) ∈ lw_all := lw_g (lw_at lw_m3 45 rfl) rfl
theorem q625 : (Jvm.Cond.selects "LoopLane$Fetch" ({ cls := "LoopLane$Act", name := "isRefused", desc := "()Z" } : Jvm.MethodName) ({ cls := "LoopLane$Fetch", name := "isRefused", desc := "()Z" } : Jvm.MethodName)) ∈ lw_all := lw_g (lw_at lw_m3 73 rfl) rfl
theorem q626 : (Jvm.Cond.instanceMethod ({ cls := "LoopLane$Fetch", name := "isRefused", desc := "()Z" } : Jvm.MethodName)) ∈ lw_all := lw_g (lw_at lw_m3 74 rfl) rfl
theorem q627 : (Jvm.Cond.code ({ cls := "LoopLane$Fetch", name := "isRefused", desc := "()Z" } : Jvm.MethodName) prog_3_method_6_code (1 : Nat) (Option.some Jvm.ClassFile.FieldType.boolean)) ∈ lw_all := lw_g (lw_at lw_m3 75 rfl) rfl
theorem q667 : (Jvm.Cond.selects "LoopLane$Fetch" ({ cls := "LoopLane$Act", name := "take", desc := "(III)V" } : Jvm.MethodName) ({ cls := "LoopLane$Act", name := "take", desc := "(III)V" } : Jvm.MethodName)) ∈ lw_all := lw_g (lw_at lw_m3 115 rfl) rfl
theorem q681 : (Jvm.Cond.sameMethod "LoopLane$Fetch" "LoopLane$Act" "begin" "(I)V") ∈ lw_all := lw_g (lw_at lw_m3 129 rfl) rfl
theorem q682 : (Jvm.Cond.selects "LoopLane$Fetch" ({ cls := "LoopLane$Fetch", name := "begin", desc := "(I)V" } : Jvm.MethodName) ({ cls := "LoopLane$Act", name := "begin", desc := "(I)V" } : Jvm.MethodName)) ∈ lw_all := lw_g (lw_at lw_m3 130 rfl) rfl
theorem q685 : (Jvm.Cond.sameMethod "LoopLane$Fetch" "LoopLane$Act" "take" "(III)V") ∈ lw_all := lw_g (lw_at lw_m3 133 rfl) rfl
theorem q687 : (Jvm.Cond.selects "LoopLane$Fetch" ({ cls := "LoopLane$Fetch", name := "take", desc := "(III)V" } : Jvm.MethodName) ({ cls := "LoopLane$Act", name := "take", desc := "(III)V" } : Jvm.MethodName)) ∈ lw_all := lw_g (lw_at lw_m3 135 rfl) rfl
theorem q885 : (Jvm.Cond.selects "LoopLane$Fetch" ({ cls := "LoopLane$Act", name := "bits", desc := "()I" } : Jvm.MethodName) ({ cls := "LoopLane$Act", name := "bits", desc := "()I" } : Jvm.MethodName)) ∈ lw_all := lw_g (lw_at lw_m4 93 rfl) rfl
theorem q1049 : (Jvm.Cond.selects "LoopLane$Fetch" ({ cls := "LoopLane$Act", name := "work", desc := "(LLoopLane$Lane;JJJ)J" } : Jvm.MethodName) ({ cls := "LoopLane$Fetch", name := "work", desc := "(LLoopLane$Lane;JJJ)J" } : Jvm.MethodName)) ∈ lw_all := lw_g (lw_at lw_m5 17 rfl) rfl
theorem q1050 : (Jvm.Cond.instanceMethod ({ cls := "LoopLane$Fetch", name := "work", desc := "(LLoopLane$Lane;JJJ)J" } : Jvm.MethodName)) ∈ lw_all := lw_g (lw_at lw_m5 18 rfl) rfl
theorem q1051 : (Jvm.Cond.code ({ cls := "LoopLane$Fetch", name := "work", desc := "(LLoopLane$Lane;JJJ)J" } : Jvm.MethodName) prog_3_method_4_code (8 : Nat) (Option.some Jvm.ClassFile.FieldType.long)) ∈ lw_all := lw_g (lw_at lw_m5 19 rfl) rfl
theorem q1052 : (Jvm.Cond.methodLink "LoopLane$Fetch" (15 : Nat) ({ cls := "LoopLane$Lane", name := "longs", desc := "(I)[J" } : Jvm.MethodName)) ∈ lw_all := lw_g (lw_at lw_m5 20 rfl) rfl
theorem q1053 : (Jvm.Cond.methodLink "LoopLane$Fetch" (21 : Nat) ({ cls := "LoopLane$Fetch", name := "place", desc := "(J)I" } : Jvm.MethodName)) ∈ lw_all := lw_g (lw_at lw_m5 21 rfl) rfl
theorem q1054 : (Jvm.Cond.static ({ cls := "LoopLane$Fetch", name := "place", desc := "(J)I" } : Jvm.MethodName)) ∈ lw_all := lw_g (lw_at lw_m5 22 rfl) rfl
theorem q1055 : (Jvm.Cond.code ({ cls := "LoopLane$Fetch", name := "place", desc := "(J)I" } : Jvm.MethodName) prog_3_method_5_code (2 : Nat) (Option.some Jvm.ClassFile.FieldType.int)) ∈ lw_all := lw_g (lw_at lw_m5 23 rfl) rfl
theorem q1056 : (Jvm.Cond.constantLong "LoopLane$Fetch" (25 : Nat) (40 : Int64)) ∈ lw_all := lw_g (lw_at lw_m5 24 rfl) rfl
theorem q1072 : (Jvm.Cond.declares ({ cls := "LoopLane$Fetch", name := "slot", desc := "()I" } : Jvm.MethodName)) ∈ lw_tbl := lw_at lw_m5 40 rfl
theorem q1571 : (Jvm.Cond.sameMethod "LoopLane$Fetch" "LoopLane$Fetch" "sort" "()I") ∈ lw_all := lw_g (lw_at lw_m7 59 rfl) rfl
theorem q1574 : (Jvm.Cond.selects "LoopLane$Fetch" ({ cls := "LoopLane$Act", name := "begin", desc := "(I)V" } : Jvm.MethodName) ({ cls := "LoopLane$Act", name := "begin", desc := "(I)V" } : Jvm.MethodName)) ∈ lw_all := lw_g (lw_at lw_m7 62 rfl) rfl
theorem q1581 : (Jvm.Cond.sameMethod "LoopLane$Fetch" "LoopLane$Fetch" "work" "(LLoopLane$Lane;JJJ)J") ∈ lw_all := lw_g (lw_at lw_m7 69 rfl) rfl
theorem q1587 : (Jvm.Cond.castable "LoopLane$Fetch" "LoopLane$Act") ∈ lw_tbl := lw_at lw_m7 75 rfl
theorem in_X10 : ∀ w ∈ wsX100, w ∈ lw_all := lw_in wsX100 [364, 365, 366, 367, 368, 369, 370, 362] (by decide +kernel) (by decide +kernel)

/-! LoopLane$Store -/
def RX11 : String := "LoopLane$Store"
def TX11 : u_T := fun k => match k with
  | 0 => ("LoopLane$Act", "lag", "I", false)
  | 1 => ("LoopLane$Act", "unit", "I", false)
  | 2 => ("LoopLane$Act", "pattern", "I", false)
  | 3 => ("LoopLane$Act", "first", "J", false)
  | 4 => ("LoopLane$Act", "many", "I", false)
  | 5 => ("LoopLane$Act", "of", "[I", true)
  | 6 => ("LoopLane$Act", "back", "[I", true)
  | _ => ("LoopLane$Fetch", "slot", "I", false)
def tyX11 : Nat → FieldType := fun k => match k with
  | 0 => .int
  | 1 => .int
  | 2 => .int
  | 3 => .long
  | 4 => .int
  | 5 => .array .int
  | 6 => .array .int
  | _ => .int
abbrev wsX110 : List Cond := u_ws RX11 TX11 8
theorem nmX11 : ∀ a, a < 8 → ∀ b, b < 8 → a ≠ b → (TX11 a).2.1 ≠ (TX11 b).2.1 := by decide +kernel
theorem tyX11_ok : ∀ k, k < 8 → parseFieldDescriptor (TX11 k).2.2.1 = some (tyX11 k) := by decide +kernel
abbrev cX11_init : ByteArray := prog_11_method_1_code
def yX11_init : MethodName := ⟨RX11, "<init>", "()V"⟩
abbrev cX11_sort : ByteArray := prog_11_method_2_code
def yX11_sort : MethodName := ⟨RX11, "sort", "()I"⟩
abbrev cX11_work : ByteArray := prog_11_method_3_code
def yX11_work : MethodName := ⟨RX11, "work", "(LLoopLane$Lane;JJJ)J"⟩
theorem q87 : (Jvm.Cond.initialized "LoopLane$Store") ∈ lw_all := lw_g (lw_at lw_m1 15 rfl) rfl
theorem q372 : (Jvm.Cond.instantiable "LoopLane$Store" (8 : Nat)) ∈ lw_all := lw_g (lw_at lw_m2 60 rfl) rfl
theorem q374 : (Jvm.Cond.instanceMethod ({ cls := "LoopLane$Store", name := "<init>", desc := "()V" } : Jvm.MethodName)) ∈ lw_all := lw_g (lw_at lw_m2 62 rfl) rfl
theorem q375 : (Jvm.Cond.code ({ cls := "LoopLane$Store", name := "<init>", desc := "()V" } : Jvm.MethodName) prog_11_method_1_code (1 : Nat) (Option.none : Option Jvm.ClassFile.FieldType)) ∈ lw_all := lw_g (lw_at lw_m2 63 rfl) rfl
theorem q376 : (Jvm.Cond.methodLinkNest "LoopLane$Store" (1 : Nat) ({ cls := "LoopLane$Fetch", name := "<init>", desc := "()V" } : Jvm.MethodName) "LoopLane") ∈ lw_tbl := lw_at lw_m2 64 rfl
theorem q377 : (Jvm.Cond.lays "LoopLane$Store" "LoopLane$Fetch" "slot" "I") ∈ lw_all := lw_g (lw_at lw_m2 65 rfl) rfl
theorem q378 : (Jvm.Cond.lays "LoopLane$Store" "LoopLane$Act" "lag" "I") ∈ lw_all := lw_g (lw_at lw_m2 66 rfl) rfl
theorem q379 : (Jvm.Cond.lays "LoopLane$Store" "LoopLane$Act" "unit" "I") ∈ lw_all := lw_g (lw_at lw_m2 67 rfl) rfl
theorem q380 : (Jvm.Cond.lays "LoopLane$Store" "LoopLane$Act" "pattern" "I") ∈ lw_all := lw_g (lw_at lw_m2 68 rfl) rfl
theorem q381 : (Jvm.Cond.lays "LoopLane$Store" "LoopLane$Act" "first" "J") ∈ lw_all := lw_g (lw_at lw_m2 69 rfl) rfl
theorem q382 : (Jvm.Cond.lays "LoopLane$Store" "LoopLane$Act" "many" "I") ∈ lw_all := lw_g (lw_at lw_m2 70 rfl) rfl
theorem q383 : (Jvm.Cond.laysFinal "LoopLane$Store" "LoopLane$Act" "of" "[I") ∈ lw_all := lw_g (lw_at lw_m2 71 rfl) rfl
theorem q384 : (Jvm.Cond.laysFinal "LoopLane$Store" "LoopLane$Act" "back" "[I") ∈ lw_all := lw_g (lw_at lw_m2 72 rfl) rfl
theorem q385 : (Jvm.Cond.superclass "LoopLane$Store" "LoopLane$Fetch") ∈ lw_all := lw_g (lw_at lw_m2 73 rfl) rfl
theorem q584 : (Jvm.Cond.selects "LoopLane$Store" ({ cls := "LoopLane$Act", name := "slot", desc := "()I" } : Jvm.MethodName) ({ cls := "LoopLane$Fetch", name := "slot", desc := "()I" } : Jvm.MethodName)) ∈ lw_all := lw_g (lw_at lw_m3 32 rfl) rfl
theorem q607 : (Jvm.Cond.selects "LoopLane$Store" ({ cls := "LoopLane$Act", name := "sort", desc := "()I" } : Jvm.MethodName) ({ cls := "LoopLane$Store", name := "sort", desc := "()I" } : Jvm.MethodName)) ∈ lw_all := lw_g (lw_at lw_m3 55 rfl) rfl
theorem q608 : (Jvm.Cond.instanceMethod ({ cls := "LoopLane$Store", name := "sort", desc := "()I" } : Jvm.MethodName)) ∈ lw_all := lw_g (lw_at lw_m3 56 rfl) rfl
theorem q609 : (Jvm.Cond.code ({ cls := "LoopLane$Store", name := "sort", desc := "()I" } : Jvm.MethodName) prog_11_method_2_code (1 : Nat) (Option.some Jvm.ClassFile.FieldType.int)) ∈ lw_all := lw_g (lw_at lw_m3 57 rfl) rfl
theorem q610 : (Jvm.Cond.methodLink "LoopLane$Store" (7 : Nat) ({ cls := "LoopLane$Fetch", name := "sort", desc := "()I" } : Jvm.MethodName)) ∈ lw_all := lw_g (lw_at lw_m3 58 rfl) rfl
theorem q633 : (Jvm.Cond.selects "LoopLane$Store" ({ cls := "LoopLane$Act", name := "isRefused", desc := "()Z" } : Jvm.MethodName) ({ cls := "LoopLane$Fetch", name := "isRefused", desc := "()Z" } : Jvm.MethodName)) ∈ lw_all := lw_g (lw_at lw_m3 81 rfl) rfl
theorem q671 : (Jvm.Cond.selects "LoopLane$Store" ({ cls := "LoopLane$Act", name := "take", desc := "(III)V" } : Jvm.MethodName) ({ cls := "LoopLane$Act", name := "take", desc := "(III)V" } : Jvm.MethodName)) ∈ lw_all := lw_g (lw_at lw_m3 119 rfl) rfl
theorem q683 : (Jvm.Cond.selects "LoopLane$Store" ({ cls := "LoopLane$Fetch", name := "begin", desc := "(I)V" } : Jvm.MethodName) ({ cls := "LoopLane$Act", name := "begin", desc := "(I)V" } : Jvm.MethodName)) ∈ lw_all := lw_g (lw_at lw_m3 131 rfl) rfl
theorem q688 : (Jvm.Cond.selects "LoopLane$Store" ({ cls := "LoopLane$Fetch", name := "take", desc := "(III)V" } : Jvm.MethodName) ({ cls := "LoopLane$Act", name := "take", desc := "(III)V" } : Jvm.MethodName)) ∈ lw_all := lw_g (lw_at lw_m3 136 rfl) rfl
theorem q889 : (Jvm.Cond.selects "LoopLane$Store" ({ cls := "LoopLane$Act", name := "bits", desc := "()I" } : Jvm.MethodName) ({ cls := "LoopLane$Act", name := "bits", desc := "()I" } : Jvm.MethodName)) ∈ lw_all := lw_g (lw_at lw_m4 97 rfl) rfl
theorem q1066 : (Jvm.Cond.selects "LoopLane$Store" ({ cls := "LoopLane$Act", name := "work", desc := "(LLoopLane$Lane;JJJ)J" } : Jvm.MethodName) ({ cls := "LoopLane$Store", name := "work", desc := "(LLoopLane$Lane;JJJ)J" } : Jvm.MethodName)) ∈ lw_all := lw_g (lw_at lw_m5 34 rfl) rfl
theorem q1067 : (Jvm.Cond.instanceMethod ({ cls := "LoopLane$Store", name := "work", desc := "(LLoopLane$Lane;JJJ)J" } : Jvm.MethodName)) ∈ lw_all := lw_g (lw_at lw_m5 35 rfl) rfl
theorem q1068 : (Jvm.Cond.code ({ cls := "LoopLane$Store", name := "work", desc := "(LLoopLane$Lane;JJJ)J" } : Jvm.MethodName) prog_11_method_3_code (10 : Nat) (Option.some Jvm.ClassFile.FieldType.long)) ∈ lw_all := lw_g (lw_at lw_m5 36 rfl) rfl
theorem q1069 : (Jvm.Cond.methodLink "LoopLane$Store" (11 : Nat) ({ cls := "LoopLane$Fetch", name := "work", desc := "(LLoopLane$Lane;JJJ)J" } : Jvm.MethodName)) ∈ lw_all := lw_g (lw_at lw_m5 37 rfl) rfl
theorem q1070 : (Jvm.Cond.methodLink "LoopLane$Store" (15 : Nat) ({ cls := "LoopLane$Store", name := "slot", desc := "()I" } : Jvm.MethodName)) ∈ lw_all := lw_g (lw_at lw_m5 38 rfl) rfl
theorem q1071 : (Jvm.Cond.sameMethod "LoopLane$Store" "LoopLane$Fetch" "slot" "()I") ∈ lw_all := lw_g (lw_at lw_m5 39 rfl) rfl
theorem q1073 : (Jvm.Cond.selects "LoopLane$Store" ({ cls := "LoopLane$Store", name := "slot", desc := "()I" } : Jvm.MethodName) ({ cls := "LoopLane$Fetch", name := "slot", desc := "()I" } : Jvm.MethodName)) ∈ lw_all := lw_g (lw_at lw_m5 41 rfl) rfl
theorem q1074 : (Jvm.Cond.methodLink "LoopLane$Store" (20 : Nat) ({ cls := "LoopLane$Lane", name := "longs", desc := "(I)[J" } : Jvm.MethodName)) ∈ lw_all := lw_g (lw_at lw_m5 42 rfl) rfl
theorem q1075 : (Jvm.Cond.methodLink "LoopLane$Store" (26 : Nat) ({ cls := "LoopLane$Store", name := "place", desc := "(J)I" } : Jvm.MethodName)) ∈ lw_all := lw_g (lw_at lw_m5 43 rfl) rfl
theorem q1076 : (Jvm.Cond.sameMethod "LoopLane$Store" "LoopLane$Fetch" "place" "(J)I") ∈ lw_all := lw_g (lw_at lw_m5 44 rfl) rfl
theorem q1578 : (Jvm.Cond.selects "LoopLane$Store" ({ cls := "LoopLane$Act", name := "begin", desc := "(I)V" } : Jvm.MethodName) ({ cls := "LoopLane$Act", name := "begin", desc := "(I)V" } : Jvm.MethodName)) ∈ lw_all := lw_g (lw_at lw_m7 66 rfl) rfl
theorem q1588 : (Jvm.Cond.castable "LoopLane$Store" "LoopLane$Act") ∈ lw_tbl := lw_at lw_m7 76 rfl
theorem q1592 : (Jvm.Cond.castable "LoopLane$Store" "LoopLane$Fetch") ∈ lw_tbl := lw_at lw_m7 80 rfl
theorem in_X11 : ∀ w ∈ wsX110, w ∈ lw_all := lw_in wsX110 [378, 379, 380, 381, 382, 383, 384, 377] (by decide +kernel) (by decide +kernel)

/-! LoopLane$Pick -/
def RX12 : String := "LoopLane$Pick"
def TX12 : u_T := fun k => match k with
  | 0 => ("LoopLane$Act", "lag", "I", false)
  | 1 => ("LoopLane$Act", "unit", "I", false)
  | 2 => ("LoopLane$Act", "pattern", "I", false)
  | 3 => ("LoopLane$Act", "first", "J", false)
  | 4 => ("LoopLane$Act", "many", "I", false)
  | 5 => ("LoopLane$Act", "of", "[I", true)
  | _ => ("LoopLane$Act", "back", "[I", true)
def tyX12 : Nat → FieldType := fun k => match k with
  | 0 => .int
  | 1 => .int
  | 2 => .int
  | 3 => .long
  | 4 => .int
  | 5 => .array .int
  | _ => .array .int
abbrev wsX120 : List Cond := u_ws RX12 TX12 7
theorem nmX12 : ∀ a, a < 7 → ∀ b, b < 7 → a ≠ b → (TX12 a).2.1 ≠ (TX12 b).2.1 := by decide +kernel
theorem tyX12_ok : ∀ k, k < 7 → parseFieldDescriptor (TX12 k).2.2.1 = some (tyX12 k) := by decide +kernel
abbrev cX12_init : ByteArray := prog_6_method_1_code
def yX12_init : MethodName := ⟨RX12, "<init>", "()V"⟩
abbrev cX12_sort : ByteArray := prog_6_method_2_code
def yX12_sort : MethodName := ⟨RX12, "sort", "()I"⟩
abbrev cX12_work : ByteArray := prog_6_method_3_code
def yX12_work : MethodName := ⟨RX12, "work", "(LLoopLane$Lane;JJJ)J"⟩
theorem q88 : (Jvm.Cond.initialized "LoopLane$Pick") ∈ lw_all := lw_g (lw_at lw_m1 16 rfl) rfl
theorem q386 : (Jvm.Cond.instantiable "LoopLane$Pick" (7 : Nat)) ∈ lw_all := lw_g (lw_at lw_m2 74 rfl) rfl
theorem q388 : (Jvm.Cond.instanceMethod ({ cls := "LoopLane$Pick", name := "<init>", desc := "()V" } : Jvm.MethodName)) ∈ lw_all := lw_g (lw_at lw_m2 76 rfl) rfl
theorem q389 : (Jvm.Cond.code ({ cls := "LoopLane$Pick", name := "<init>", desc := "()V" } : Jvm.MethodName) prog_6_method_1_code (1 : Nat) (Option.none : Option Jvm.ClassFile.FieldType)) ∈ lw_all := lw_g (lw_at lw_m2 77 rfl) rfl
theorem q390 : (Jvm.Cond.methodLinkNest "LoopLane$Pick" (3 : Nat) ({ cls := "LoopLane$Act", name := "<init>", desc := "()V" } : Jvm.MethodName) "LoopLane") ∈ lw_tbl := lw_at lw_m2 78 rfl
theorem q391 : (Jvm.Cond.lays "LoopLane$Pick" "LoopLane$Act" "lag" "I") ∈ lw_all := lw_g (lw_at lw_m2 79 rfl) rfl
theorem q392 : (Jvm.Cond.lays "LoopLane$Pick" "LoopLane$Act" "unit" "I") ∈ lw_all := lw_g (lw_at lw_m2 80 rfl) rfl
theorem q393 : (Jvm.Cond.lays "LoopLane$Pick" "LoopLane$Act" "pattern" "I") ∈ lw_all := lw_g (lw_at lw_m2 81 rfl) rfl
theorem q394 : (Jvm.Cond.lays "LoopLane$Pick" "LoopLane$Act" "first" "J") ∈ lw_all := lw_g (lw_at lw_m2 82 rfl) rfl
theorem q395 : (Jvm.Cond.lays "LoopLane$Pick" "LoopLane$Act" "many" "I") ∈ lw_all := lw_g (lw_at lw_m2 83 rfl) rfl
theorem q396 : (Jvm.Cond.laysFinal "LoopLane$Pick" "LoopLane$Act" "of" "[I") ∈ lw_all := lw_g (lw_at lw_m2 84 rfl) rfl
theorem q397 : (Jvm.Cond.laysFinal "LoopLane$Pick" "LoopLane$Act" "back" "[I") ∈ lw_all := lw_g (lw_at lw_m2 85 rfl) rfl
theorem q398 : (Jvm.Cond.superclass "LoopLane$Pick" "LoopLane$Act") ∈ lw_all := lw_g (lw_at lw_m2 86 rfl) rfl
theorem q582 : (Jvm.Cond.selects "LoopLane$Pick" ({ cls := "LoopLane$Act", name := "slot", desc := "()I" } : Jvm.MethodName) ({ cls := "LoopLane$Act", name := "slot", desc := "()I" } : Jvm.MethodName)) ∈ lw_all := lw_g (lw_at lw_m3 30 rfl) rfl
theorem q601 : (Jvm.Cond.selects "LoopLane$Pick" ({ cls := "LoopLane$Act", name := "sort", desc := "()I" } : Jvm.MethodName) ({ cls := "LoopLane$Pick", name := "sort", desc := "()I" } : Jvm.MethodName)) ∈ lw_all := lw_g (lw_at lw_m3 49 rfl) rfl
theorem q602 : (Jvm.Cond.instanceMethod ({ cls := "LoopLane$Pick", name := "sort", desc := "()I" } : Jvm.MethodName)) ∈ lw_all := lw_g (lw_at lw_m3 50 rfl) rfl
theorem q603 : (Jvm.Cond.code ({ cls := "LoopLane$Pick", name := "sort", desc := "()I" } : Jvm.MethodName) prog_6_method_2_code (1 : Nat) (Option.some Jvm.ClassFile.FieldType.int)) ∈ lw_all := lw_g (lw_at lw_m3 51 rfl) rfl
theorem q631 : (Jvm.Cond.selects "LoopLane$Pick" ({ cls := "LoopLane$Act", name := "isRefused", desc := "()Z" } : Jvm.MethodName) ({ cls := "LoopLane$Act", name := "isRefused", desc := "()Z" } : Jvm.MethodName)) ∈ lw_all := lw_g (lw_at lw_m3 79 rfl) rfl
theorem q669 : (Jvm.Cond.selects "LoopLane$Pick" ({ cls := "LoopLane$Act", name := "take", desc := "(III)V" } : Jvm.MethodName) ({ cls := "LoopLane$Act", name := "take", desc := "(III)V" } : Jvm.MethodName)) ∈ lw_all := lw_g (lw_at lw_m3 117 rfl) rfl
theorem q887 : (Jvm.Cond.selects "LoopLane$Pick" ({ cls := "LoopLane$Act", name := "bits", desc := "()I" } : Jvm.MethodName) ({ cls := "LoopLane$Act", name := "bits", desc := "()I" } : Jvm.MethodName)) ∈ lw_all := lw_g (lw_at lw_m4 95 rfl) rfl
theorem q1060 : (Jvm.Cond.selects "LoopLane$Pick" ({ cls := "LoopLane$Act", name := "work", desc := "(LLoopLane$Lane;JJJ)J" } : Jvm.MethodName) ({ cls := "LoopLane$Pick", name := "work", desc := "(LLoopLane$Lane;JJJ)J" } : Jvm.MethodName)) ∈ lw_all := lw_g (lw_at lw_m5 28 rfl) rfl
theorem q1061 : (Jvm.Cond.instanceMethod ({ cls := "LoopLane$Pick", name := "work", desc := "(LLoopLane$Lane;JJJ)J" } : Jvm.MethodName)) ∈ lw_all := lw_g (lw_at lw_m5 29 rfl) rfl
theorem q1062 : (Jvm.Cond.code ({ cls := "LoopLane$Pick", name := "work", desc := "(LLoopLane$Lane;JJJ)J" } : Jvm.MethodName) prog_6_method_3_code (8 : Nat) (Option.some Jvm.ClassFile.FieldType.long)) ∈ lw_all := lw_g (lw_at lw_m5 30 rfl) rfl
theorem q1576 : (Jvm.Cond.selects "LoopLane$Pick" ({ cls := "LoopLane$Act", name := "begin", desc := "(I)V" } : Jvm.MethodName) ({ cls := "LoopLane$Act", name := "begin", desc := "(I)V" } : Jvm.MethodName)) ∈ lw_all := lw_g (lw_at lw_m7 64 rfl) rfl
theorem q1589 : (Jvm.Cond.castable "LoopLane$Pick" "LoopLane$Act") ∈ lw_tbl := lw_at lw_m7 77 rfl
theorem in_X12 : ∀ w ∈ wsX120, w ∈ lw_all := lw_in wsX120 [391, 392, 393, 394, 395, 396, 397] (by decide +kernel) (by decide +kernel)

/-! LoopLaneModel -/
def RX13 : String := "LoopLaneModel"
def TX13 : u_T := fun k => match k with
  | 0 => ("LoopLaneModel", "sort", "[I", true)
  | 1 => ("LoopLaneModel", "lag", "[I", true)
  | 2 => ("LoopLaneModel", "unit", "[I", true)
  | 3 => ("LoopLaneModel", "pattern", "[I", true)
  | 4 => ("LoopLaneModel", "slot", "[I", true)
  | 5 => ("LoopLaneModel", "of", "[I", true)
  | 6 => ("LoopLaneModel", "back", "[I", true)
  | 7 => ("LoopLaneModel", "first", "[J", true)
  | 8 => ("LoopLaneModel", "number", "[J", true)
  | 9 => ("LoopLaneModel", "acts", "I", false)
  | 10 => ("LoopLaneModel", "units", "[I", true)
  | 11 => ("LoopLaneModel", "toldA", "[I", true)
  | 12 => ("LoopLaneModel", "toldB", "[I", true)
  | 13 => ("LoopLaneModel", "toldTicks", "[I", true)
  | 14 => ("LoopLaneModel", "toldTurns", "[I", true)
  | 15 => ("LoopLaneModel", "told", "I", false)
  | 16 => ("LoopLaneModel", "edgeA", "[I", true)
  | 17 => ("LoopLaneModel", "edgeB", "[I", true)
  | 18 => ("LoopLaneModel", "edgeTicks", "[I", true)
  | 19 => ("LoopLaneModel", "edgeTurns", "[I", true)
  | 20 => ("LoopLaneModel", "edges", "I", false)
  | 21 => ("LoopLaneModel", "rows", "[J", true)
  | 22 => ("LoopLaneModel", "rowsNow", "[J", true)
  | 23 => ("LoopLaneModel", "rowSize", "[I", true)
  | 24 => ("LoopLaneModel", "isWide", "[Z", true)
  | 25 => ("LoopLaneModel", "refused", "[I", true)
  | 26 => ("LoopLaneModel", "latest", "I", false)
  | 27 => ("LoopLaneModel", "beat", "I", false)
  | 28 => ("LoopLaneModel", "ticks", "[I", true)
  | 29 => ("LoopLaneModel", "stages", "[I", true)
  | 30 => ("LoopLaneModel", "begin", "[I", true)
  | 31 => ("LoopLaneModel", "forged", "[I", true)
  | 32 => ("LoopLaneModel", "tried", "I", false)
  | 33 => ("LoopLaneModel", "pushed", "[I", true)
  | 34 => ("LoopLaneModel", "trial", "[I", true)
  | 35 => ("LoopLaneModel", "full", "[I", true)
  | 36 => ("LoopLaneModel", "wrong", "[I", true)
  | 37 => ("LoopLaneModel", "ends", "[J", true)
  | 38 => ("LoopLaneModel", "endKind", "I", false)
  | 39 => ("LoopLaneModel", "endAct", "I", false)
  | 40 => ("LoopLaneModel", "endTurn", "I", false)
  | 41 => ("LoopLaneModel", "begun", "I", false)
  | 42 => ("LoopLaneModel", "spent", "I", false)
  | 43 => ("LoopLaneModel", "wasLaid", "I", false)
  | _ => ("LoopLaneModel", "done", "I", false)
def tyX13 : Nat → FieldType := fun k => match k with
  | 0 => .array .int
  | 1 => .array .int
  | 2 => .array .int
  | 3 => .array .int
  | 4 => .array .int
  | 5 => .array .int
  | 6 => .array .int
  | 7 => .array .long
  | 8 => .array .long
  | 9 => .int
  | 10 => .array .int
  | 11 => .array .int
  | 12 => .array .int
  | 13 => .array .int
  | 14 => .array .int
  | 15 => .int
  | 16 => .array .int
  | 17 => .array .int
  | 18 => .array .int
  | 19 => .array .int
  | 20 => .int
  | 21 => .array .long
  | 22 => .array .long
  | 23 => .array .int
  | 24 => .array .boolean
  | 25 => .array .int
  | 26 => .int
  | 27 => .int
  | 28 => .array .int
  | 29 => .array .int
  | 30 => .array .int
  | 31 => .array .int
  | 32 => .int
  | 33 => .array .int
  | 34 => .array .int
  | 35 => .array .int
  | 36 => .array .int
  | 37 => .array .long
  | 38 => .int
  | 39 => .int
  | 40 => .int
  | 41 => .int
  | 42 => .int
  | 43 => .int
  | _ => .int
abbrev wsX130 : List Cond := u_ws RX13 TX13 45
set_option maxRecDepth 100000 in
theorem nmX13 : ∀ a, a < 45 → ∀ b, b < 45 → a ≠ b → (TX13 a).2.1 ≠ (TX13 b).2.1 := by decide +kernel
set_option maxRecDepth 100000 in
theorem tyX13_ok : ∀ k, k < 45 → parseFieldDescriptor (TX13 k).2.2.1 = some (tyX13 k) := by decide +kernel
abbrev cX13_init : ByteArray := prog_15_method_1_code
def yX13_init : MethodName := ⟨RX13, "<init>", "()V"⟩
abbrev cX13_forget : ByteArray := prog_15_method_62_code
def yX13_forget : MethodName := ⟨RX13, "forget", "()V"⟩
abbrev cX13_unwrong : ByteArray := prog_15_method_50_code
def yX13_unwrong : MethodName := ⟨RX13, "unwrong", "()V"⟩
abbrev cX13_put : ByteArray := prog_15_method_10_code
def yX13_put : MethodName := ⟨RX13, "put", "(J)I"⟩
abbrev cX13_adds : ByteArray := prog_15_method_6_code
def yX13_adds : MethodName := ⟨RX13, "adds", "(IIIIII)I"⟩
abbrev cX13_no : ByteArray := prog_15_method_3_code
def yX13_no : MethodName := ⟨RX13, "no", "(I)I"⟩
abbrev cX13_operand : ByteArray := prog_15_method_7_code
def yX13_operand : MethodName := ⟨RX13, "operand", "(IIII)V"⟩
abbrev cX13_changes : ByteArray := prog_15_method_5_code
def yX13_changes : MethodName := ⟨RX13, "changes", "()V"⟩
abbrev cX13_reckon : ByteArray := prog_15_method_11_code
def yX13_reckon : MethodName := ⟨RX13, "reckon", "(IIIII)I"⟩
abbrev cX13_isIn : ByteArray := prog_15_method_2_code
def yX13_isIn : MethodName := ⟨RX13, "isIn", "(JJJ)Z"⟩
abbrev cX13_areTurns : ByteArray := prog_15_method_8_code
def yX13_areTurns : MethodName := ⟨RX13, "areTurns", "(I)Z"⟩
abbrev cX13_isBeyond : ByteArray := prog_15_method_9_code
def yX13_isBeyond : MethodName := ⟨RX13, "isBeyond", "(II)Z"⟩
abbrev cX13_fetch : ByteArray := prog_15_method_12_code
def yX13_fetch : MethodName := ⟨RX13, "fetch", "(III)I"⟩
abbrev cX13_store : ByteArray := prog_15_method_13_code
def yX13_store : MethodName := ⟨RX13, "store", "(IIIII)I"⟩
abbrev cX13_pick : ByteArray := prog_15_method_14_code
def yX13_pick : MethodName := ⟨RX13, "pick", "(IIII)I"⟩
abbrev cX13_works : ByteArray := prog_15_method_15_code
def yX13_works : MethodName := ⟨RX13, "works", "(IIII)I"⟩
abbrev cX13_isAct : ByteArray := prog_15_method_4_code
def yX13_isAct : MethodName := ⟨RX13, "isAct", "(I)Z"⟩
abbrev cX13_first : ByteArray := prog_15_method_16_code
def yX13_first : MethodName := ⟨RX13, "first", "(IJ)I"⟩
abbrev cX13_unit : ByteArray := prog_15_method_17_code
def yX13_unit : MethodName := ⟨RX13, "unit", "(II)I"⟩
abbrev cX13_edge : ByteArray := prog_15_method_18_code
def yX13_edge : MethodName := ⟨RX13, "edge", "(IIII)I"⟩
abbrev cX13_undo : ByteArray := prog_15_method_19_code
def yX13_undo : MethodName := ⟨RX13, "undo", "()I"⟩
abbrev cX13_act : ByteArray := prog_15_method_20_code
def yX13_act : MethodName := ⟨RX13, "act", "(II)I"⟩
abbrev cX13_number : ByteArray := prog_15_method_21_code
def yX13_number : MethodName := ⟨RX13, "number", "(I)J"⟩
abbrev cX13_whole : ByteArray := prog_15_method_22_code
def yX13_whole : MethodName := ⟨RX13, "whole", "()I"⟩
abbrev cX13_count : ByteArray := prog_15_method_23_code
def yX13_count : MethodName := ⟨RX13, "count", "(I)I"⟩
abbrev cX13_gather : ByteArray := prog_15_method_26_code
def yX13_gather : MethodName := ⟨RX13, "gather", "()V"⟩
abbrev cX13_enter : ByteArray := prog_15_method_24_code
def yX13_enter : MethodName := ⟨RX13, "enter", "(IIII)V"⟩
abbrev cX13_gatherTwo : ByteArray := prog_15_method_27_code
def yX13_gatherTwo : MethodName := ⟨RX13, "gatherTwo", "(II)V"⟩
abbrev cX13_isOfRow : ByteArray := prog_15_method_25_code
def yX13_isOfRow : MethodName := ⟨RX13, "isOfRow", "(I)Z"⟩
abbrev cX13_lowest : ByteArray := prog_15_method_34_code
def yX13_lowest : MethodName := ⟨RX13, "lowest", "()I"⟩
abbrev cX13_isReady : ByteArray := prog_15_method_32_code
def yX13_isReady : MethodName := ⟨RX13, "isReady", "()Z"⟩
abbrev cX13_lowestBeat : ByteArray := prog_15_method_33_code
def yX13_lowestBeat : MethodName := ⟨RX13, "lowestBeat", "()I"⟩
abbrev cX13_byUnits : ByteArray := prog_15_method_29_code
def yX13_byUnits : MethodName := ⟨RX13, "byUnits", "()I"⟩
abbrev cX13_bits : ByteArray := prog_15_method_28_code
def yX13_bits : MethodName := ⟨RX13, "bits", "(I)I"⟩
abbrev cX13_byRings : ByteArray := prog_15_method_31_code
def yX13_byRings : MethodName := ⟨RX13, "byRings", "()I"⟩
abbrev cX13_rests : ByteArray := prog_15_method_30_code
def yX13_rests : MethodName := ⟨RX13, "rests", "(I)Z"⟩
abbrev cX13_lay : ByteArray := prog_15_method_39_code
def yX13_lay : MethodName := ⟨RX13, "lay", "()I"⟩
abbrev cX13_tries : ByteArray := prog_15_method_38_code
def yX13_tries : MethodName := ⟨RX13, "tries", "(I)I"⟩
abbrev cX13_fits : ByteArray := prog_15_method_35_code
def yX13_fits : MethodName := ⟨RX13, "fits", "(II)Z"⟩
abbrev cX13_holds : ByteArray := prog_15_method_37_code
def yX13_holds : MethodName := ⟨RX13, "holds", "(II)Z"⟩
abbrev cX13_cut : ByteArray := prog_15_method_36_code
def yX13_cut : MethodName := ⟨RX13, "cut", "(II)I"⟩
abbrev cX13_prove : ByteArray := prog_15_method_40_code
def yX13_prove : MethodName := ⟨RX13, "prove", "(I)I"⟩
abbrev cX13_trials : ByteArray := prog_15_method_41_code
def yX13_trials : MethodName := ⟨RX13, "trials", "()I"⟩
abbrev cX13_laying : ByteArray := prog_15_method_42_code
def yX13_laying : MethodName := ⟨RX13, "laying", "(I)I"⟩
abbrev cX13_tick : ByteArray := prog_15_method_44_code
def yX13_tick : MethodName := ⟨RX13, "tick", "(II)I"⟩
abbrev cX13_latestBegin : ByteArray := prog_15_method_43_code
def yX13_latestBegin : MethodName := ⟨RX13, "latestBegin", "(I)I"⟩
abbrev cX13_filled : ByteArray := prog_15_method_45_code
def yX13_filled : MethodName := ⟨RX13, "filled", "(II)I"⟩
abbrev cX13_names : ByteArray := prog_15_method_47_code
def yX13_names : MethodName := ⟨RX13, "names", "(I)I"⟩
abbrev cX13_placesOf : ByteArray := prog_15_method_46_code
def yX13_placesOf : MethodName := ⟨RX13, "placesOf", "(I)I"⟩
abbrev cX13_fewest : ByteArray := prog_15_method_48_code
def yX13_fewest : MethodName := ⟨RX13, "fewest", "(I)I"⟩
abbrev cX13_forge : ByteArray := prog_15_method_49_code
def yX13_forge : MethodName := ⟨RX13, "forge", "(II)I"⟩
abbrev cX13_check : ByteArray := prog_15_method_52_code
def yX13_check : MethodName := ⟨RX13, "check", "()I"⟩
abbrev cX13_isAhead : ByteArray := prog_15_method_51_code
def yX13_isAhead : MethodName := ⟨RX13, "isAhead", "(I)Z"⟩
abbrev cX13_filledAs : ByteArray := prog_15_method_53_code
def yX13_filledAs : MethodName := ⟨RX13, "filledAs", "(II)I"⟩
abbrev cX13_wrong : ByteArray := prog_15_method_54_code
def yX13_wrong : MethodName := ⟨RX13, "wrong", "(I)I"⟩
abbrev cX13_row : ByteArray := prog_15_method_56_code
def yX13_row : MethodName := ⟨RX13, "row", "(IIZ)I"⟩
abbrev cX13_isSlot : ByteArray := prog_15_method_55_code
def yX13_isSlot : MethodName := ⟨RX13, "isSlot", "(I)Z"⟩
abbrev cX13_empty : ByteArray := prog_15_method_57_code
def yX13_empty : MethodName := ⟨RX13, "empty", "(I)I"⟩
abbrev cX13_set : ByteArray := prog_15_method_59_code
def yX13_set : MethodName := ⟨RX13, "set", "(IIJ)I"⟩
abbrev cX13_why : ByteArray := prog_15_method_58_code
def yX13_why : MethodName := ⟨RX13, "why", "(IJ)I"⟩
abbrev cX13_get : ByteArray := prog_15_method_60_code
def yX13_get : MethodName := ⟨RX13, "get", "(II)J"⟩
abbrev cX13_copy : ByteArray := prog_15_method_61_code
def yX13_copy : MethodName := ⟨RX13, "copy", "(IIIII)I"⟩
abbrev cX13_run : ByteArray := prog_15_method_68_code
def yX13_run : MethodName := ⟨RX13, "run", "(IZ)I"⟩
abbrev cX13_whyNoRun : ByteArray := prog_15_method_67_code
def yX13_whyNoRun : MethodName := ⟨RX13, "whyNoRun", "(IZ)I"⟩
abbrev cX13_laid : ByteArray := prog_15_method_66_code
def yX13_laid : MethodName := ⟨RX13, "laid", "(I)V"⟩
abbrev cX13_does : ByteArray := prog_15_method_64_code
def yX13_does : MethodName := ⟨RX13, "does", "(II)I"⟩
abbrev cX13_value : ByteArray := prog_15_method_63_code
def yX13_value : MethodName := ⟨RX13, "value", "(III)J"⟩
abbrev cX13_plain : ByteArray := prog_15_method_65_code
def yX13_plain : MethodName := ⟨RX13, "plain", "(I)V"⟩
abbrev cX13_compare : ByteArray := prog_15_method_69_code
def yX13_compare : MethodName := ⟨RX13, "compare", "(I)I"⟩
abbrev cX13_told : ByteArray := prog_15_method_70_code
def yX13_told : MethodName := ⟨RX13, "told", "(I)I"⟩
abbrev cX13_end : ByteArray := prog_15_method_71_code
def yX13_end : MethodName := ⟨RX13, "end", "(I)J"⟩
abbrev cX13_again : ByteArray := prog_15_method_72_code
def yX13_again : MethodName := ⟨RX13, "again", "()I"⟩
abbrev cX13_status : ByteArray := prog_15_method_73_code
def yX13_status : MethodName := ⟨RX13, "status", "(I)I"⟩
theorem q89 : (Jvm.Cond.initialized "LoopLaneModel") ∈ lw_all := lw_g (lw_at lw_m1 17 rfl) rfl
theorem q1126 : (Jvm.Cond.instantiable "LoopLaneModel" (45 : Nat)) ∈ lw_all := lw_g (lw_at lw_m5 94 rfl) rfl
theorem q1128 : (Jvm.Cond.instanceMethod ({ cls := "LoopLaneModel", name := "<init>", desc := "()V" } : Jvm.MethodName)) ∈ lw_all := lw_g (lw_at lw_m5 96 rfl) rfl
theorem q1129 : (Jvm.Cond.code ({ cls := "LoopLaneModel", name := "<init>", desc := "()V" } : Jvm.MethodName) prog_15_method_1_code (2 : Nat) (Option.none : Option Jvm.ClassFile.FieldType)) ∈ lw_all := lw_g (lw_at lw_m5 97 rfl) rfl
theorem q1130 : (Jvm.Cond.methodLink "LoopLaneModel" (1 : Nat) ({ cls := "java/lang/Object", name := "<init>", desc := "()V" } : Jvm.MethodName)) ∈ lw_all := lw_g (lw_at lw_m5 98 rfl) rfl
theorem q1131 : (Jvm.Cond.methodLink "LoopLaneModel" (108 : Nat) ({ cls := "LoopLaneModel", name := "forget", desc := "()V" } : Jvm.MethodName)) ∈ lw_all := lw_g (lw_at lw_m5 99 rfl) rfl
theorem q1132 : (Jvm.Cond.privateMethod ({ cls := "LoopLaneModel", name := "forget", desc := "()V" } : Jvm.MethodName)) ∈ lw_tbl := lw_at lw_m5 100 rfl
theorem q1133 : (Jvm.Cond.instanceMethod ({ cls := "LoopLaneModel", name := "forget", desc := "()V" } : Jvm.MethodName)) ∈ lw_all := lw_g (lw_at lw_m5 101 rfl) rfl
theorem q1134 : (Jvm.Cond.code ({ cls := "LoopLaneModel", name := "forget", desc := "()V" } : Jvm.MethodName) prog_15_method_62_code (1 : Nat) (Option.none : Option Jvm.ClassFile.FieldType)) ∈ lw_all := lw_g (lw_at lw_m5 102 rfl) rfl
theorem q1135 : (Jvm.Cond.methodLink "LoopLaneModel" (111 : Nat) ({ cls := "LoopLaneModel", name := "unwrong", desc := "()V" } : Jvm.MethodName)) ∈ lw_all := lw_g (lw_at lw_m5 103 rfl) rfl
theorem q1136 : (Jvm.Cond.privateMethod ({ cls := "LoopLaneModel", name := "unwrong", desc := "()V" } : Jvm.MethodName)) ∈ lw_tbl := lw_at lw_m5 104 rfl
theorem q1137 : (Jvm.Cond.instanceMethod ({ cls := "LoopLaneModel", name := "unwrong", desc := "()V" } : Jvm.MethodName)) ∈ lw_all := lw_g (lw_at lw_m5 105 rfl) rfl
theorem q1138 : (Jvm.Cond.code ({ cls := "LoopLaneModel", name := "unwrong", desc := "()V" } : Jvm.MethodName) prog_15_method_50_code (2 : Nat) (Option.none : Option Jvm.ClassFile.FieldType)) ∈ lw_all := lw_g (lw_at lw_m5 106 rfl) rfl
theorem q1139 : (Jvm.Cond.fieldLink "LoopLaneModel" (7 : Nat) "LoopLaneModel" "sort" "[I") ∈ lw_all := lw_g (lw_at lw_m5 107 rfl) rfl
theorem q1140 : (Jvm.Cond.fieldLink "LoopLaneModel" (13 : Nat) "LoopLaneModel" "lag" "[I") ∈ lw_all := lw_g (lw_at lw_m5 108 rfl) rfl
theorem q1141 : (Jvm.Cond.fieldLink "LoopLaneModel" (16 : Nat) "LoopLaneModel" "unit" "[I") ∈ lw_all := lw_g (lw_at lw_m5 109 rfl) rfl
theorem q1142 : (Jvm.Cond.fieldLink "LoopLaneModel" (19 : Nat) "LoopLaneModel" "pattern" "[I") ∈ lw_all := lw_g (lw_at lw_m5 110 rfl) rfl
theorem q1143 : (Jvm.Cond.fieldLink "LoopLaneModel" (22 : Nat) "LoopLaneModel" "slot" "[I") ∈ lw_all := lw_g (lw_at lw_m5 111 rfl) rfl
theorem q1144 : (Jvm.Cond.fieldLink "LoopLaneModel" (25 : Nat) "LoopLaneModel" "of" "[I") ∈ lw_all := lw_g (lw_at lw_m5 112 rfl) rfl
theorem q1145 : (Jvm.Cond.fieldLink "LoopLaneModel" (28 : Nat) "LoopLaneModel" "back" "[I") ∈ lw_all := lw_g (lw_at lw_m5 113 rfl) rfl
theorem q1146 : (Jvm.Cond.fieldLink "LoopLaneModel" (31 : Nat) "LoopLaneModel" "first" "[J") ∈ lw_all := lw_g (lw_at lw_m5 114 rfl) rfl
theorem q1147 : (Jvm.Cond.fieldLink "LoopLaneModel" (35 : Nat) "LoopLaneModel" "number" "[J") ∈ lw_all := lw_g (lw_at lw_m5 115 rfl) rfl
theorem q1148 : (Jvm.Cond.fieldLink "LoopLaneModel" (118 : Nat) "LoopLaneModel" "acts" "I") ∈ lw_all := lw_g (lw_at lw_m5 116 rfl) rfl
theorem q1149 : (Jvm.Cond.fieldLink "LoopLaneModel" (38 : Nat) "LoopLaneModel" "units" "[I") ∈ lw_all := lw_g (lw_at lw_m5 117 rfl) rfl
theorem q1150 : (Jvm.Cond.fieldLink "LoopLaneModel" (41 : Nat) "LoopLaneModel" "toldA" "[I") ∈ lw_all := lw_g (lw_at lw_m5 118 rfl) rfl
theorem q1151 : (Jvm.Cond.fieldLink "LoopLaneModel" (44 : Nat) "LoopLaneModel" "toldB" "[I") ∈ lw_all := lw_g (lw_at lw_m5 119 rfl) rfl
theorem q1152 : (Jvm.Cond.fieldLink "LoopLaneModel" (47 : Nat) "LoopLaneModel" "toldTicks" "[I") ∈ lw_all := lw_g (lw_at lw_m5 120 rfl) rfl
theorem q1153 : (Jvm.Cond.fieldLink "LoopLaneModel" (50 : Nat) "LoopLaneModel" "toldTurns" "[I") ∈ lw_all := lw_g (lw_at lw_m5 121 rfl) rfl
theorem q1154 : (Jvm.Cond.fieldLink "LoopLaneModel" (172 : Nat) "LoopLaneModel" "told" "I") ∈ lw_all := lw_g (lw_at lw_m5 122 rfl) rfl
theorem q1155 : (Jvm.Cond.fieldLink "LoopLaneModel" (53 : Nat) "LoopLaneModel" "edgeA" "[I") ∈ lw_all := lw_g (lw_at lw_m5 123 rfl) rfl
theorem q1156 : (Jvm.Cond.fieldLink "LoopLaneModel" (56 : Nat) "LoopLaneModel" "edgeB" "[I") ∈ lw_all := lw_g (lw_at lw_m5 124 rfl) rfl
theorem q1157 : (Jvm.Cond.fieldLink "LoopLaneModel" (59 : Nat) "LoopLaneModel" "edgeTicks" "[I") ∈ lw_all := lw_g (lw_at lw_m5 125 rfl) rfl
theorem q1158 : (Jvm.Cond.fieldLink "LoopLaneModel" (62 : Nat) "LoopLaneModel" "edgeTurns" "[I") ∈ lw_all := lw_g (lw_at lw_m5 126 rfl) rfl
theorem q1159 : (Jvm.Cond.fieldLink "LoopLaneModel" (180 : Nat) "LoopLaneModel" "edges" "I") ∈ lw_all := lw_g (lw_at lw_m5 127 rfl) rfl
theorem q1160 : (Jvm.Cond.fieldLink "LoopLaneModel" (65 : Nat) "LoopLaneModel" "rows" "[J") ∈ lw_all := lw_g (lw_at lw_m5 128 rfl) rfl
theorem q1161 : (Jvm.Cond.fieldLink "LoopLaneModel" (68 : Nat) "LoopLaneModel" "rowsNow" "[J") ∈ lw_all := lw_g (lw_at lw_m5 129 rfl) rfl
theorem q1162 : (Jvm.Cond.fieldLink "LoopLaneModel" (71 : Nat) "LoopLaneModel" "rowSize" "[I") ∈ lw_all := lw_g (lw_at lw_m5 130 rfl) rfl
theorem q1163 : (Jvm.Cond.fieldLink "LoopLaneModel" (74 : Nat) "LoopLaneModel" "isWide" "[Z") ∈ lw_all := lw_g (lw_at lw_m5 131 rfl) rfl
theorem q1164 : (Jvm.Cond.fieldLink "LoopLaneModel" (78 : Nat) "LoopLaneModel" "refused" "[I") ∈ lw_all := lw_g (lw_at lw_m5 132 rfl) rfl
theorem q1165 : (Jvm.Cond.fieldLink "LoopLaneModel" (114 : Nat) "LoopLaneModel" "latest" "I") ∈ lw_all := lw_g (lw_at lw_m5 133 rfl) rfl
theorem q1166 : (Jvm.Cond.fieldLink "LoopLaneModel" (121 : Nat) "LoopLaneModel" "beat" "I") ∈ lw_all := lw_g (lw_at lw_m5 134 rfl) rfl
theorem q1167 : (Jvm.Cond.fieldLink "LoopLaneModel" (81 : Nat) "LoopLaneModel" "ticks" "[I") ∈ lw_all := lw_g (lw_at lw_m5 135 rfl) rfl
theorem q1168 : (Jvm.Cond.fieldLink "LoopLaneModel" (84 : Nat) "LoopLaneModel" "stages" "[I") ∈ lw_all := lw_g (lw_at lw_m5 136 rfl) rfl
theorem q1169 : (Jvm.Cond.fieldLink "LoopLaneModel" (87 : Nat) "LoopLaneModel" "begin" "[I") ∈ lw_all := lw_g (lw_at lw_m5 137 rfl) rfl
theorem q1170 : (Jvm.Cond.fieldLink "LoopLaneModel" (90 : Nat) "LoopLaneModel" "forged" "[I") ∈ lw_all := lw_g (lw_at lw_m5 138 rfl) rfl
theorem q1171 : (Jvm.Cond.fieldLink "LoopLaneModel" (221 : Nat) "LoopLaneModel" "tried" "I") ∈ lw_all := lw_g (lw_at lw_m5 139 rfl) rfl
theorem q1172 : (Jvm.Cond.fieldLink "LoopLaneModel" (93 : Nat) "LoopLaneModel" "pushed" "[I") ∈ lw_all := lw_g (lw_at lw_m5 140 rfl) rfl
theorem q1173 : (Jvm.Cond.fieldLink "LoopLaneModel" (96 : Nat) "LoopLaneModel" "trial" "[I") ∈ lw_all := lw_g (lw_at lw_m5 141 rfl) rfl
theorem q1174 : (Jvm.Cond.fieldLink "LoopLaneModel" (99 : Nat) "LoopLaneModel" "full" "[I") ∈ lw_all := lw_g (lw_at lw_m5 142 rfl) rfl
theorem q1175 : (Jvm.Cond.fieldLink "LoopLaneModel" (102 : Nat) "LoopLaneModel" "wrong" "[I") ∈ lw_all := lw_g (lw_at lw_m5 143 rfl) rfl
theorem q1176 : (Jvm.Cond.fieldLink "LoopLaneModel" (105 : Nat) "LoopLaneModel" "ends" "[J") ∈ lw_all := lw_g (lw_at lw_m5 144 rfl) rfl
theorem q1177 : (Jvm.Cond.fieldLink "LoopLaneModel" (258 : Nat) "LoopLaneModel" "endKind" "I") ∈ lw_all := lw_g (lw_at lw_m5 145 rfl) rfl
theorem q1178 : (Jvm.Cond.fieldLink "LoopLaneModel" (261 : Nat) "LoopLaneModel" "endAct" "I") ∈ lw_all := lw_g (lw_at lw_m5 146 rfl) rfl
theorem q1179 : (Jvm.Cond.fieldLink "LoopLaneModel" (264 : Nat) "LoopLaneModel" "endTurn" "I") ∈ lw_all := lw_g (lw_at lw_m5 147 rfl) rfl
theorem q1180 : (Jvm.Cond.fieldLink "LoopLaneModel" (267 : Nat) "LoopLaneModel" "begun" "I") ∈ lw_all := lw_g (lw_at lw_m5 148 rfl) rfl
theorem q1181 : (Jvm.Cond.fieldLink "LoopLaneModel" (270 : Nat) "LoopLaneModel" "spent" "I") ∈ lw_all := lw_g (lw_at lw_m5 149 rfl) rfl
theorem q1182 : (Jvm.Cond.fieldLink "LoopLaneModel" (273 : Nat) "LoopLaneModel" "wasLaid" "I") ∈ lw_all := lw_g (lw_at lw_m5 150 rfl) rfl
theorem q1183 : (Jvm.Cond.fieldLink "LoopLaneModel" (276 : Nat) "LoopLaneModel" "done" "I") ∈ lw_all := lw_g (lw_at lw_m5 151 rfl) rfl
theorem q1184 : (Jvm.Cond.laysFinal "LoopLaneModel" "LoopLaneModel" "sort" "[I") ∈ lw_all := lw_g (lw_at lw_m5 152 rfl) rfl
theorem q1185 : (Jvm.Cond.soleField "LoopLaneModel" "sort") ∈ lw_all := lw_g (lw_at lw_m5 153 rfl) rfl
theorem q1186 : (Jvm.Cond.laysFinal "LoopLaneModel" "LoopLaneModel" "lag" "[I") ∈ lw_all := lw_g (lw_at lw_m5 154 rfl) rfl
theorem q1187 : (Jvm.Cond.soleField "LoopLaneModel" "lag") ∈ lw_all := lw_g (lw_at lw_m5 155 rfl) rfl
theorem q1188 : (Jvm.Cond.laysFinal "LoopLaneModel" "LoopLaneModel" "unit" "[I") ∈ lw_all := lw_g (lw_at lw_m5 156 rfl) rfl
theorem q1189 : (Jvm.Cond.soleField "LoopLaneModel" "unit") ∈ lw_all := lw_g (lw_at lw_m5 157 rfl) rfl
theorem q1190 : (Jvm.Cond.laysFinal "LoopLaneModel" "LoopLaneModel" "pattern" "[I") ∈ lw_all := lw_g (lw_at lw_m5 158 rfl) rfl
theorem q1191 : (Jvm.Cond.soleField "LoopLaneModel" "pattern") ∈ lw_all := lw_g (lw_at lw_m5 159 rfl) rfl
theorem q1192 : (Jvm.Cond.laysFinal "LoopLaneModel" "LoopLaneModel" "slot" "[I") ∈ lw_all := lw_g (lw_at lw_m5 160 rfl) rfl
theorem q1193 : (Jvm.Cond.soleField "LoopLaneModel" "slot") ∈ lw_all := lw_g (lw_at lw_m5 161 rfl) rfl
theorem q1194 : (Jvm.Cond.laysFinal "LoopLaneModel" "LoopLaneModel" "of" "[I") ∈ lw_all := lw_g (lw_at lw_m5 162 rfl) rfl
theorem q1195 : (Jvm.Cond.soleField "LoopLaneModel" "of") ∈ lw_all := lw_g (lw_at lw_m5 163 rfl) rfl
theorem q1196 : (Jvm.Cond.laysFinal "LoopLaneModel" "LoopLaneModel" "back" "[I") ∈ lw_all := lw_g (lw_at lw_m5 164 rfl) rfl
theorem q1197 : (Jvm.Cond.soleField "LoopLaneModel" "back") ∈ lw_all := lw_g (lw_at lw_m5 165 rfl) rfl
theorem q1198 : (Jvm.Cond.laysFinal "LoopLaneModel" "LoopLaneModel" "first" "[J") ∈ lw_all := lw_g (lw_at lw_m5 166 rfl) rfl
theorem q1199 : (Jvm.Cond.soleField "LoopLaneModel" "first") ∈ lw_all := lw_g (lw_at lw_m5 167 rfl) rfl
theorem q1200 : (Jvm.Cond.laysFinal "LoopLaneModel" "LoopLaneModel" "number" "[J") ∈ lw_all := lw_g (lw_at lw_m5 168 rfl) rfl
theorem q1201 : (Jvm.Cond.soleField "LoopLaneModel" "number") ∈ lw_all := lw_g (lw_at lw_m5 169 rfl) rfl
theorem q1202 : (Jvm.Cond.lays "LoopLaneModel" "LoopLaneModel" "acts" "I") ∈ lw_all := lw_g (lw_at lw_m5 170 rfl) rfl
theorem q1203 : (Jvm.Cond.soleField "LoopLaneModel" "acts") ∈ lw_all := lw_g (lw_at lw_m5 171 rfl) rfl
theorem q1204 : (Jvm.Cond.laysFinal "LoopLaneModel" "LoopLaneModel" "units" "[I") ∈ lw_all := lw_g (lw_at lw_m5 172 rfl) rfl
theorem q1205 : (Jvm.Cond.soleField "LoopLaneModel" "units") ∈ lw_all := lw_g (lw_at lw_m5 173 rfl) rfl
theorem q1206 : (Jvm.Cond.laysFinal "LoopLaneModel" "LoopLaneModel" "toldA" "[I") ∈ lw_all := lw_g (lw_at lw_m5 174 rfl) rfl
theorem q1207 : (Jvm.Cond.soleField "LoopLaneModel" "toldA") ∈ lw_all := lw_g (lw_at lw_m5 175 rfl) rfl
theorem q1208 : (Jvm.Cond.laysFinal "LoopLaneModel" "LoopLaneModel" "toldB" "[I") ∈ lw_all := lw_g (lw_at lw_m5 176 rfl) rfl
theorem q1209 : (Jvm.Cond.soleField "LoopLaneModel" "toldB") ∈ lw_all := lw_g (lw_at lw_m5 177 rfl) rfl
theorem q1210 : (Jvm.Cond.laysFinal "LoopLaneModel" "LoopLaneModel" "toldTicks" "[I") ∈ lw_all := lw_g (lw_at lw_m5 178 rfl) rfl
theorem q1211 : (Jvm.Cond.soleField "LoopLaneModel" "toldTicks") ∈ lw_all := lw_g (lw_at lw_m5 179 rfl) rfl
theorem q1212 : (Jvm.Cond.laysFinal "LoopLaneModel" "LoopLaneModel" "toldTurns" "[I") ∈ lw_all := lw_g (lw_at lw_m5 180 rfl) rfl
theorem q1213 : (Jvm.Cond.soleField "LoopLaneModel" "toldTurns") ∈ lw_all := lw_g (lw_at lw_m5 181 rfl) rfl
theorem q1214 : (Jvm.Cond.lays "LoopLaneModel" "LoopLaneModel" "told" "I") ∈ lw_all := lw_g (lw_at lw_m5 182 rfl) rfl
theorem q1215 : (Jvm.Cond.soleField "LoopLaneModel" "told") ∈ lw_all := lw_g (lw_at lw_m5 183 rfl) rfl
theorem q1216 : (Jvm.Cond.laysFinal "LoopLaneModel" "LoopLaneModel" "edgeA" "[I") ∈ lw_all := lw_g (lw_at lw_m5 184 rfl) rfl
theorem q1217 : (Jvm.Cond.soleField "LoopLaneModel" "edgeA") ∈ lw_all := lw_g (lw_at lw_m5 185 rfl) rfl
theorem q1218 : (Jvm.Cond.laysFinal "LoopLaneModel" "LoopLaneModel" "edgeB" "[I") ∈ lw_all := lw_g (lw_at lw_m5 186 rfl) rfl
theorem q1219 : (Jvm.Cond.soleField "LoopLaneModel" "edgeB") ∈ lw_all := lw_g (lw_at lw_m5 187 rfl) rfl
theorem q1220 : (Jvm.Cond.laysFinal "LoopLaneModel" "LoopLaneModel" "edgeTicks" "[I") ∈ lw_all := lw_g (lw_at lw_m5 188 rfl) rfl
theorem q1221 : (Jvm.Cond.soleField "LoopLaneModel" "edgeTicks") ∈ lw_all := lw_g (lw_at lw_m5 189 rfl) rfl
theorem q1222 : (Jvm.Cond.laysFinal "LoopLaneModel" "LoopLaneModel" "edgeTurns" "[I") ∈ lw_all := lw_g (lw_at lw_m5 190 rfl) rfl
theorem q1223 : (Jvm.Cond.soleField "LoopLaneModel" "edgeTurns") ∈ lw_all := lw_g (lw_at lw_m5 191 rfl) rfl
theorem q1224 : (Jvm.Cond.lays "LoopLaneModel" "LoopLaneModel" "edges" "I") ∈ lw_all := lw_g (lw_at lw_m5 192 rfl) rfl
theorem q1225 : (Jvm.Cond.soleField "LoopLaneModel" "edges") ∈ lw_all := lw_g (lw_at lw_m5 193 rfl) rfl
theorem q1226 : (Jvm.Cond.laysFinal "LoopLaneModel" "LoopLaneModel" "rows" "[J") ∈ lw_all := lw_g (lw_at lw_m5 194 rfl) rfl
theorem q1227 : (Jvm.Cond.soleField "LoopLaneModel" "rows") ∈ lw_all := lw_g (lw_at lw_m5 195 rfl) rfl
theorem q1228 : (Jvm.Cond.laysFinal "LoopLaneModel" "LoopLaneModel" "rowsNow" "[J") ∈ lw_all := lw_g (lw_at lw_m5 196 rfl) rfl
theorem q1229 : (Jvm.Cond.soleField "LoopLaneModel" "rowsNow") ∈ lw_all := lw_g (lw_at lw_m5 197 rfl) rfl
theorem q1230 : (Jvm.Cond.laysFinal "LoopLaneModel" "LoopLaneModel" "rowSize" "[I") ∈ lw_all := lw_g (lw_at lw_m5 198 rfl) rfl
theorem q1231 : (Jvm.Cond.soleField "LoopLaneModel" "rowSize") ∈ lw_all := lw_g (lw_at lw_m5 199 rfl) rfl
theorem q1232 : (Jvm.Cond.laysFinal "LoopLaneModel" "LoopLaneModel" "isWide" "[Z") ∈ lw_all := lw_g (lw_at lw_m5 200 rfl) rfl
theorem q1233 : (Jvm.Cond.soleField "LoopLaneModel" "isWide") ∈ lw_all := lw_g (lw_at lw_m5 201 rfl) rfl
theorem q1234 : (Jvm.Cond.laysFinal "LoopLaneModel" "LoopLaneModel" "refused" "[I") ∈ lw_all := lw_g (lw_at lw_m5 202 rfl) rfl
theorem q1235 : (Jvm.Cond.soleField "LoopLaneModel" "refused") ∈ lw_all := lw_g (lw_at lw_m5 203 rfl) rfl
theorem q1236 : (Jvm.Cond.lays "LoopLaneModel" "LoopLaneModel" "latest" "I") ∈ lw_all := lw_g (lw_at lw_m5 204 rfl) rfl
theorem q1237 : (Jvm.Cond.soleField "LoopLaneModel" "latest") ∈ lw_all := lw_g (lw_at lw_m5 205 rfl) rfl
theorem q1238 : (Jvm.Cond.lays "LoopLaneModel" "LoopLaneModel" "beat" "I") ∈ lw_all := lw_g (lw_at lw_m5 206 rfl) rfl
theorem q1239 : (Jvm.Cond.soleField "LoopLaneModel" "beat") ∈ lw_all := lw_g (lw_at lw_m5 207 rfl) rfl
theorem q1240 : (Jvm.Cond.laysFinal "LoopLaneModel" "LoopLaneModel" "ticks" "[I") ∈ lw_all := lw_g (lw_at lw_m5 208 rfl) rfl
theorem q1241 : (Jvm.Cond.soleField "LoopLaneModel" "ticks") ∈ lw_all := lw_g (lw_at lw_m5 209 rfl) rfl
theorem q1242 : (Jvm.Cond.laysFinal "LoopLaneModel" "LoopLaneModel" "stages" "[I") ∈ lw_all := lw_g (lw_at lw_m5 210 rfl) rfl
theorem q1243 : (Jvm.Cond.soleField "LoopLaneModel" "stages") ∈ lw_all := lw_g (lw_at lw_m5 211 rfl) rfl
theorem q1244 : (Jvm.Cond.laysFinal "LoopLaneModel" "LoopLaneModel" "begin" "[I") ∈ lw_all := lw_g (lw_at lw_m5 212 rfl) rfl
theorem q1245 : (Jvm.Cond.soleField "LoopLaneModel" "begin") ∈ lw_all := lw_g (lw_at lw_m5 213 rfl) rfl
theorem q1246 : (Jvm.Cond.laysFinal "LoopLaneModel" "LoopLaneModel" "forged" "[I") ∈ lw_all := lw_g (lw_at lw_m5 214 rfl) rfl
theorem q1247 : (Jvm.Cond.soleField "LoopLaneModel" "forged") ∈ lw_all := lw_g (lw_at lw_m5 215 rfl) rfl
theorem q1248 : (Jvm.Cond.lays "LoopLaneModel" "LoopLaneModel" "tried" "I") ∈ lw_all := lw_g (lw_at lw_m5 216 rfl) rfl
theorem q1249 : (Jvm.Cond.soleField "LoopLaneModel" "tried") ∈ lw_all := lw_g (lw_at lw_m5 217 rfl) rfl
theorem q1250 : (Jvm.Cond.laysFinal "LoopLaneModel" "LoopLaneModel" "pushed" "[I") ∈ lw_all := lw_g (lw_at lw_m5 218 rfl) rfl
theorem q1251 : (Jvm.Cond.soleField "LoopLaneModel" "pushed") ∈ lw_all := lw_g (lw_at lw_m5 219 rfl) rfl
theorem q1252 : (Jvm.Cond.laysFinal "LoopLaneModel" "LoopLaneModel" "trial" "[I") ∈ lw_all := lw_g (lw_at lw_m5 220 rfl) rfl
theorem q1253 : (Jvm.Cond.soleField "LoopLaneModel" "trial") ∈ lw_all := lw_g (lw_at lw_m5 221 rfl) rfl
theorem q1254 : (Jvm.Cond.laysFinal "LoopLaneModel" "LoopLaneModel" "full" "[I") ∈ lw_all := lw_g (lw_at lw_m5 222 rfl) rfl
theorem q1255 : (Jvm.Cond.soleField "LoopLaneModel" "full") ∈ lw_all := lw_g (lw_at lw_m5 223 rfl) rfl
theorem q1256 : (Jvm.Cond.laysFinal "LoopLaneModel" "LoopLaneModel" "wrong" "[I") ∈ lw_all := lw_g (lw_at lw_m5 224 rfl) rfl
theorem q1257 : (Jvm.Cond.soleField "LoopLaneModel" "wrong") ∈ lw_all := lw_g (lw_at lw_m5 225 rfl) rfl
theorem q1258 : (Jvm.Cond.laysFinal "LoopLaneModel" "LoopLaneModel" "ends" "[J") ∈ lw_all := lw_g (lw_at lw_m5 226 rfl) rfl
theorem q1259 : (Jvm.Cond.soleField "LoopLaneModel" "ends") ∈ lw_all := lw_g (lw_at lw_m5 227 rfl) rfl
theorem q1260 : (Jvm.Cond.lays "LoopLaneModel" "LoopLaneModel" "endKind" "I") ∈ lw_all := lw_g (lw_at lw_m5 228 rfl) rfl
theorem q1261 : (Jvm.Cond.soleField "LoopLaneModel" "endKind") ∈ lw_all := lw_g (lw_at lw_m5 229 rfl) rfl
theorem q1262 : (Jvm.Cond.lays "LoopLaneModel" "LoopLaneModel" "endAct" "I") ∈ lw_all := lw_g (lw_at lw_m5 230 rfl) rfl
theorem q1263 : (Jvm.Cond.soleField "LoopLaneModel" "endAct") ∈ lw_all := lw_g (lw_at lw_m5 231 rfl) rfl
theorem q1264 : (Jvm.Cond.lays "LoopLaneModel" "LoopLaneModel" "endTurn" "I") ∈ lw_all := lw_g (lw_at lw_m5 232 rfl) rfl
theorem q1265 : (Jvm.Cond.soleField "LoopLaneModel" "endTurn") ∈ lw_all := lw_g (lw_at lw_m5 233 rfl) rfl
theorem q1266 : (Jvm.Cond.lays "LoopLaneModel" "LoopLaneModel" "begun" "I") ∈ lw_all := lw_g (lw_at lw_m5 234 rfl) rfl
theorem q1267 : (Jvm.Cond.soleField "LoopLaneModel" "begun") ∈ lw_all := lw_g (lw_at lw_m5 235 rfl) rfl
theorem q1268 : (Jvm.Cond.lays "LoopLaneModel" "LoopLaneModel" "spent" "I") ∈ lw_all := lw_g (lw_at lw_m5 236 rfl) rfl
theorem q1269 : (Jvm.Cond.soleField "LoopLaneModel" "spent") ∈ lw_all := lw_g (lw_at lw_m5 237 rfl) rfl
theorem q1270 : (Jvm.Cond.lays "LoopLaneModel" "LoopLaneModel" "wasLaid" "I") ∈ lw_all := lw_g (lw_at lw_m5 238 rfl) rfl
theorem q1271 : (Jvm.Cond.soleField "LoopLaneModel" "wasLaid") ∈ lw_all := lw_g (lw_at lw_m5 239 rfl) rfl
theorem q1272 : (Jvm.Cond.lays "LoopLaneModel" "LoopLaneModel" "done" "I") ∈ lw_all := lw_g (lw_at lw_m6 0 rfl) rfl
theorem q1273 : (Jvm.Cond.soleField "LoopLaneModel" "done") ∈ lw_all := lw_g (lw_at lw_m6 1 rfl) rfl
theorem q1274 : (Jvm.Cond.superclass "LoopLaneModel" "java/lang/Object") ∈ lw_all := lw_g (lw_at lw_m6 2 rfl) rfl
theorem q1277 : (Jvm.Cond.instanceMethod ({ cls := "LoopLaneModel", name := "put", desc := "(J)I" } : Jvm.MethodName)) ∈ lw_all := lw_g (lw_at lw_m6 5 rfl) rfl
theorem q1278 : (Jvm.Cond.selects "LoopLaneModel" ({ cls := "LoopLaneModel", name := "put", desc := "(J)I" } : Jvm.MethodName) ({ cls := "LoopLaneModel", name := "put", desc := "(J)I" } : Jvm.MethodName)) ∈ lw_all := lw_g (lw_at lw_m6 6 rfl) rfl
theorem q1279 : (Jvm.Cond.code ({ cls := "LoopLaneModel", name := "put", desc := "(J)I" } : Jvm.MethodName) prog_15_method_10_code (4 : Nat) (Option.some Jvm.ClassFile.FieldType.int)) ∈ lw_all := lw_g (lw_at lw_m6 7 rfl) rfl
theorem q1280 : (Jvm.Cond.methodLink "LoopLaneModel" (143 : Nat) ({ cls := "LoopLaneModel", name := "adds", desc := "(IIIIII)I" } : Jvm.MethodName)) ∈ lw_all := lw_g (lw_at lw_m6 8 rfl) rfl
theorem q1281 : (Jvm.Cond.privateMethod ({ cls := "LoopLaneModel", name := "adds", desc := "(IIIIII)I" } : Jvm.MethodName)) ∈ lw_tbl := lw_at lw_m6 9 rfl
theorem q1282 : (Jvm.Cond.instanceMethod ({ cls := "LoopLaneModel", name := "adds", desc := "(IIIIII)I" } : Jvm.MethodName)) ∈ lw_all := lw_g (lw_at lw_m6 10 rfl) rfl
theorem q1283 : (Jvm.Cond.code ({ cls := "LoopLaneModel", name := "adds", desc := "(IIIIII)I" } : Jvm.MethodName) prog_15_method_6_code (8 : Nat) (Option.some Jvm.ClassFile.FieldType.int)) ∈ lw_all := lw_g (lw_at lw_m6 11 rfl) rfl
theorem q1284 : (Jvm.Cond.methodLink "LoopLaneModel" (124 : Nat) ({ cls := "LoopLaneModel", name := "no", desc := "(I)I" } : Jvm.MethodName)) ∈ lw_all := lw_g (lw_at lw_m6 12 rfl) rfl
theorem q1285 : (Jvm.Cond.privateMethod ({ cls := "LoopLaneModel", name := "no", desc := "(I)I" } : Jvm.MethodName)) ∈ lw_tbl := lw_at lw_m6 13 rfl
theorem q1286 : (Jvm.Cond.instanceMethod ({ cls := "LoopLaneModel", name := "no", desc := "(I)I" } : Jvm.MethodName)) ∈ lw_all := lw_g (lw_at lw_m6 14 rfl) rfl
theorem q1287 : (Jvm.Cond.code ({ cls := "LoopLaneModel", name := "no", desc := "(I)I" } : Jvm.MethodName) prog_15_method_3_code (2 : Nat) (Option.some Jvm.ClassFile.FieldType.int)) ∈ lw_all := lw_g (lw_at lw_m6 15 rfl) rfl
theorem q1288 : (Jvm.Cond.methodLink "LoopLaneModel" (128 : Nat) ({ cls := "LoopLaneModel", name := "operand", desc := "(IIII)V" } : Jvm.MethodName)) ∈ lw_all := lw_g (lw_at lw_m6 16 rfl) rfl
theorem q1289 : (Jvm.Cond.privateMethod ({ cls := "LoopLaneModel", name := "operand", desc := "(IIII)V" } : Jvm.MethodName)) ∈ lw_tbl := lw_at lw_m6 17 rfl
theorem q1290 : (Jvm.Cond.instanceMethod ({ cls := "LoopLaneModel", name := "operand", desc := "(IIII)V" } : Jvm.MethodName)) ∈ lw_all := lw_g (lw_at lw_m6 18 rfl) rfl
theorem q1291 : (Jvm.Cond.code ({ cls := "LoopLaneModel", name := "operand", desc := "(IIII)V" } : Jvm.MethodName) prog_15_method_7_code (5 : Nat) (Option.none : Option Jvm.ClassFile.FieldType)) ∈ lw_all := lw_g (lw_at lw_m6 19 rfl) rfl
theorem q1292 : (Jvm.Cond.methodLink "LoopLaneModel" (132 : Nat) ({ cls := "LoopLaneModel", name := "changes", desc := "()V" } : Jvm.MethodName)) ∈ lw_all := lw_g (lw_at lw_m6 20 rfl) rfl
theorem q1293 : (Jvm.Cond.privateMethod ({ cls := "LoopLaneModel", name := "changes", desc := "()V" } : Jvm.MethodName)) ∈ lw_tbl := lw_at lw_m6 21 rfl
theorem q1294 : (Jvm.Cond.instanceMethod ({ cls := "LoopLaneModel", name := "changes", desc := "()V" } : Jvm.MethodName)) ∈ lw_all := lw_g (lw_at lw_m6 22 rfl) rfl
theorem q1295 : (Jvm.Cond.code ({ cls := "LoopLaneModel", name := "changes", desc := "()V" } : Jvm.MethodName) prog_15_method_5_code (1 : Nat) (Option.none : Option Jvm.ClassFile.FieldType)) ∈ lw_all := lw_g (lw_at lw_m6 23 rfl) rfl
theorem q1297 : (Jvm.Cond.instanceMethod ({ cls := "LoopLaneModel", name := "reckon", desc := "(IIIII)I" } : Jvm.MethodName)) ∈ lw_all := lw_g (lw_at lw_m6 25 rfl) rfl
theorem q1298 : (Jvm.Cond.selects "LoopLaneModel" ({ cls := "LoopLaneModel", name := "reckon", desc := "(IIIII)I" } : Jvm.MethodName) ({ cls := "LoopLaneModel", name := "reckon", desc := "(IIIII)I" } : Jvm.MethodName)) ∈ lw_all := lw_g (lw_at lw_m6 26 rfl) rfl
theorem q1299 : (Jvm.Cond.code ({ cls := "LoopLaneModel", name := "reckon", desc := "(IIIII)I" } : Jvm.MethodName) prog_15_method_11_code (6 : Nat) (Option.some Jvm.ClassFile.FieldType.int)) ∈ lw_all := lw_g (lw_at lw_m6 27 rfl) rfl
theorem q1300 : (Jvm.Cond.constantLong "LoopLaneModel" (147 : Nat) (3 : Int64)) ∈ lw_all := lw_g (lw_at lw_m6 28 rfl) rfl
theorem q1301 : (Jvm.Cond.methodLink "LoopLaneModel" (137 : Nat) ({ cls := "LoopLaneModel", name := "isIn", desc := "(JJJ)Z" } : Jvm.MethodName)) ∈ lw_all := lw_g (lw_at lw_m6 29 rfl) rfl
theorem q1302 : (Jvm.Cond.static ({ cls := "LoopLaneModel", name := "isIn", desc := "(JJJ)Z" } : Jvm.MethodName)) ∈ lw_all := lw_g (lw_at lw_m6 30 rfl) rfl
theorem q1303 : (Jvm.Cond.code ({ cls := "LoopLaneModel", name := "isIn", desc := "(JJJ)Z" } : Jvm.MethodName) prog_15_method_2_code (6 : Nat) (Option.some Jvm.ClassFile.FieldType.boolean)) ∈ lw_all := lw_g (lw_at lw_m6 31 rfl) rfl
theorem q1304 : (Jvm.Cond.methodLink "LoopLaneModel" (149 : Nat) ({ cls := "LoopLaneModel", name := "areTurns", desc := "(I)Z" } : Jvm.MethodName)) ∈ lw_all := lw_g (lw_at lw_m6 32 rfl) rfl
theorem q1305 : (Jvm.Cond.static ({ cls := "LoopLaneModel", name := "areTurns", desc := "(I)Z" } : Jvm.MethodName)) ∈ lw_all := lw_g (lw_at lw_m6 33 rfl) rfl
theorem q1306 : (Jvm.Cond.code ({ cls := "LoopLaneModel", name := "areTurns", desc := "(I)Z" } : Jvm.MethodName) prog_15_method_8_code (1 : Nat) (Option.some Jvm.ClassFile.FieldType.boolean)) ∈ lw_all := lw_g (lw_at lw_m6 34 rfl) rfl
theorem q1307 : (Jvm.Cond.constantLong "LoopLaneModel" (135 : Nat) (4 : Int64)) ∈ lw_all := lw_g (lw_at lw_m6 35 rfl) rfl
theorem q1308 : (Jvm.Cond.methodLink "LoopLaneModel" (153 : Nat) ({ cls := "LoopLaneModel", name := "isBeyond", desc := "(II)Z" } : Jvm.MethodName)) ∈ lw_all := lw_g (lw_at lw_m6 36 rfl) rfl
theorem q1309 : (Jvm.Cond.privateMethod ({ cls := "LoopLaneModel", name := "isBeyond", desc := "(II)Z" } : Jvm.MethodName)) ∈ lw_tbl := lw_at lw_m6 37 rfl
theorem q1310 : (Jvm.Cond.instanceMethod ({ cls := "LoopLaneModel", name := "isBeyond", desc := "(II)Z" } : Jvm.MethodName)) ∈ lw_all := lw_g (lw_at lw_m6 38 rfl) rfl
theorem q1311 : (Jvm.Cond.code ({ cls := "LoopLaneModel", name := "isBeyond", desc := "(II)Z" } : Jvm.MethodName) prog_15_method_9_code (3 : Nat) (Option.some Jvm.ClassFile.FieldType.boolean)) ∈ lw_all := lw_g (lw_at lw_m6 39 rfl) rfl
theorem q1312 : (Jvm.Cond.constantLong "LoopLaneModel" (141 : Nat) (15 : Int64)) ∈ lw_all := lw_g (lw_at lw_m6 40 rfl) rfl
theorem q1314 : (Jvm.Cond.instanceMethod ({ cls := "LoopLaneModel", name := "fetch", desc := "(III)I" } : Jvm.MethodName)) ∈ lw_all := lw_g (lw_at lw_m6 42 rfl) rfl
theorem q1315 : (Jvm.Cond.selects "LoopLaneModel" ({ cls := "LoopLaneModel", name := "fetch", desc := "(III)I" } : Jvm.MethodName) ({ cls := "LoopLaneModel", name := "fetch", desc := "(III)I" } : Jvm.MethodName)) ∈ lw_all := lw_g (lw_at lw_m6 43 rfl) rfl
theorem q1316 : (Jvm.Cond.code ({ cls := "LoopLaneModel", name := "fetch", desc := "(III)I" } : Jvm.MethodName) prog_15_method_12_code (4 : Nat) (Option.some Jvm.ClassFile.FieldType.int)) ∈ lw_all := lw_g (lw_at lw_m6 44 rfl) rfl
theorem q1317 : (Jvm.Cond.constantLong "LoopLaneModel" (157 : Nat) (7 : Int64)) ∈ lw_all := lw_g (lw_at lw_m6 45 rfl) rfl
theorem q1319 : (Jvm.Cond.instanceMethod ({ cls := "LoopLaneModel", name := "store", desc := "(IIIII)I" } : Jvm.MethodName)) ∈ lw_all := lw_g (lw_at lw_m6 47 rfl) rfl
theorem q1320 : (Jvm.Cond.selects "LoopLaneModel" ({ cls := "LoopLaneModel", name := "store", desc := "(IIIII)I" } : Jvm.MethodName) ({ cls := "LoopLaneModel", name := "store", desc := "(IIIII)I" } : Jvm.MethodName)) ∈ lw_all := lw_g (lw_at lw_m6 48 rfl) rfl
theorem q1321 : (Jvm.Cond.code ({ cls := "LoopLaneModel", name := "store", desc := "(IIIII)I" } : Jvm.MethodName) prog_15_method_13_code (6 : Nat) (Option.some Jvm.ClassFile.FieldType.int)) ∈ lw_all := lw_g (lw_at lw_m6 49 rfl) rfl
theorem q1323 : (Jvm.Cond.instanceMethod ({ cls := "LoopLaneModel", name := "pick", desc := "(IIII)I" } : Jvm.MethodName)) ∈ lw_all := lw_g (lw_at lw_m6 51 rfl) rfl
theorem q1324 : (Jvm.Cond.selects "LoopLaneModel" ({ cls := "LoopLaneModel", name := "pick", desc := "(IIII)I" } : Jvm.MethodName) ({ cls := "LoopLaneModel", name := "pick", desc := "(IIII)I" } : Jvm.MethodName)) ∈ lw_all := lw_g (lw_at lw_m6 52 rfl) rfl
theorem q1325 : (Jvm.Cond.code ({ cls := "LoopLaneModel", name := "pick", desc := "(IIII)I" } : Jvm.MethodName) prog_15_method_14_code (6 : Nat) (Option.some Jvm.ClassFile.FieldType.int)) ∈ lw_all := lw_g (lw_at lw_m6 53 rfl) rfl
theorem q1327 : (Jvm.Cond.instanceMethod ({ cls := "LoopLaneModel", name := "works", desc := "(IIII)I" } : Jvm.MethodName)) ∈ lw_all := lw_g (lw_at lw_m6 55 rfl) rfl
theorem q1328 : (Jvm.Cond.selects "LoopLaneModel" ({ cls := "LoopLaneModel", name := "works", desc := "(IIII)I" } : Jvm.MethodName) ({ cls := "LoopLaneModel", name := "works", desc := "(IIII)I" } : Jvm.MethodName)) ∈ lw_all := lw_g (lw_at lw_m6 56 rfl) rfl
theorem q1329 : (Jvm.Cond.code ({ cls := "LoopLaneModel", name := "works", desc := "(IIII)I" } : Jvm.MethodName) prog_15_method_15_code (5 : Nat) (Option.some Jvm.ClassFile.FieldType.int)) ∈ lw_all := lw_g (lw_at lw_m6 57 rfl) rfl
theorem q1330 : (Jvm.Cond.methodLink "LoopLaneModel" (159 : Nat) ({ cls := "LoopLaneModel", name := "isAct", desc := "(I)Z" } : Jvm.MethodName)) ∈ lw_all := lw_g (lw_at lw_m6 58 rfl) rfl
theorem q1331 : (Jvm.Cond.privateMethod ({ cls := "LoopLaneModel", name := "isAct", desc := "(I)Z" } : Jvm.MethodName)) ∈ lw_tbl := lw_at lw_m6 59 rfl
theorem q1332 : (Jvm.Cond.instanceMethod ({ cls := "LoopLaneModel", name := "isAct", desc := "(I)Z" } : Jvm.MethodName)) ∈ lw_all := lw_g (lw_at lw_m6 60 rfl) rfl
theorem q1333 : (Jvm.Cond.code ({ cls := "LoopLaneModel", name := "isAct", desc := "(I)Z" } : Jvm.MethodName) prog_15_method_4_code (2 : Nat) (Option.some Jvm.ClassFile.FieldType.boolean)) ∈ lw_all := lw_g (lw_at lw_m6 61 rfl) rfl
theorem q1334 : (Jvm.Cond.constantLong "LoopLaneModel" (162 : Nat) (5 : Int64)) ∈ lw_all := lw_g (lw_at lw_m6 62 rfl) rfl
theorem q1335 : (Jvm.Cond.constantLong "LoopLaneModel" (164 : Nat) (12 : Int64)) ∈ lw_all := lw_g (lw_at lw_m6 63 rfl) rfl
theorem q1336 : (Jvm.Cond.constantLong "LoopLaneModel" (166 : Nat) (255 : Int64)) ∈ lw_all := lw_g (lw_at lw_m6 64 rfl) rfl
theorem q1338 : (Jvm.Cond.instanceMethod ({ cls := "LoopLaneModel", name := "first", desc := "(IJ)I" } : Jvm.MethodName)) ∈ lw_all := lw_g (lw_at lw_m6 66 rfl) rfl
theorem q1339 : (Jvm.Cond.selects "LoopLaneModel" ({ cls := "LoopLaneModel", name := "first", desc := "(IJ)I" } : Jvm.MethodName) ({ cls := "LoopLaneModel", name := "first", desc := "(IJ)I" } : Jvm.MethodName)) ∈ lw_all := lw_g (lw_at lw_m6 67 rfl) rfl
theorem q1340 : (Jvm.Cond.code ({ cls := "LoopLaneModel", name := "first", desc := "(IJ)I" } : Jvm.MethodName) prog_15_method_16_code (4 : Nat) (Option.some Jvm.ClassFile.FieldType.int)) ∈ lw_all := lw_g (lw_at lw_m6 68 rfl) rfl
theorem q1342 : (Jvm.Cond.instanceMethod ({ cls := "LoopLaneModel", name := "unit", desc := "(II)I" } : Jvm.MethodName)) ∈ lw_all := lw_g (lw_at lw_m6 70 rfl) rfl
theorem q1343 : (Jvm.Cond.selects "LoopLaneModel" ({ cls := "LoopLaneModel", name := "unit", desc := "(II)I" } : Jvm.MethodName) ({ cls := "LoopLaneModel", name := "unit", desc := "(II)I" } : Jvm.MethodName)) ∈ lw_all := lw_g (lw_at lw_m6 71 rfl) rfl
theorem q1344 : (Jvm.Cond.code ({ cls := "LoopLaneModel", name := "unit", desc := "(II)I" } : Jvm.MethodName) prog_15_method_17_code (4 : Nat) (Option.some Jvm.ClassFile.FieldType.int)) ∈ lw_all := lw_g (lw_at lw_m6 72 rfl) rfl
theorem q1346 : (Jvm.Cond.instanceMethod ({ cls := "LoopLaneModel", name := "edge", desc := "(IIII)I" } : Jvm.MethodName)) ∈ lw_all := lw_g (lw_at lw_m6 74 rfl) rfl
theorem q1347 : (Jvm.Cond.selects "LoopLaneModel" ({ cls := "LoopLaneModel", name := "edge", desc := "(IIII)I" } : Jvm.MethodName) ({ cls := "LoopLaneModel", name := "edge", desc := "(IIII)I" } : Jvm.MethodName)) ∈ lw_all := lw_g (lw_at lw_m6 75 rfl) rfl
theorem q1348 : (Jvm.Cond.code ({ cls := "LoopLaneModel", name := "edge", desc := "(IIII)I" } : Jvm.MethodName) prog_15_method_18_code (5 : Nat) (Option.some Jvm.ClassFile.FieldType.int)) ∈ lw_all := lw_g (lw_at lw_m6 76 rfl) rfl
theorem q1349 : (Jvm.Cond.constantLong "LoopLaneModel" (168 : Nat) (-50 : Int64)) ∈ lw_all := lw_g (lw_at lw_m6 77 rfl) rfl
theorem q1350 : (Jvm.Cond.constantLong "LoopLaneModel" (170 : Nat) (50 : Int64)) ∈ lw_all := lw_g (lw_at lw_m6 78 rfl) rfl
theorem q1352 : (Jvm.Cond.instanceMethod ({ cls := "LoopLaneModel", name := "undo", desc := "()I" } : Jvm.MethodName)) ∈ lw_all := lw_g (lw_at lw_m6 80 rfl) rfl
theorem q1353 : (Jvm.Cond.selects "LoopLaneModel" ({ cls := "LoopLaneModel", name := "undo", desc := "()I" } : Jvm.MethodName) ({ cls := "LoopLaneModel", name := "undo", desc := "()I" } : Jvm.MethodName)) ∈ lw_all := lw_g (lw_at lw_m6 81 rfl) rfl
theorem q1354 : (Jvm.Cond.code ({ cls := "LoopLaneModel", name := "undo", desc := "()I" } : Jvm.MethodName) prog_15_method_19_code (4 : Nat) (Option.some Jvm.ClassFile.FieldType.int)) ∈ lw_all := lw_g (lw_at lw_m6 82 rfl) rfl
theorem q1356 : (Jvm.Cond.instanceMethod ({ cls := "LoopLaneModel", name := "act", desc := "(II)I" } : Jvm.MethodName)) ∈ lw_all := lw_g (lw_at lw_m6 84 rfl) rfl
theorem q1357 : (Jvm.Cond.selects "LoopLaneModel" ({ cls := "LoopLaneModel", name := "act", desc := "(II)I" } : Jvm.MethodName) ({ cls := "LoopLaneModel", name := "act", desc := "(II)I" } : Jvm.MethodName)) ∈ lw_all := lw_g (lw_at lw_m6 85 rfl) rfl
theorem q1358 : (Jvm.Cond.code ({ cls := "LoopLaneModel", name := "act", desc := "(II)I" } : Jvm.MethodName) prog_15_method_20_code (4 : Nat) (Option.some Jvm.ClassFile.FieldType.int)) ∈ lw_all := lw_g (lw_at lw_m6 86 rfl) rfl
theorem q1359 : (Jvm.Cond.constantLong "LoopLaneModel" (175 : Nat) (10 : Int64)) ∈ lw_all := lw_g (lw_at lw_m6 87 rfl) rfl
theorem q1361 : (Jvm.Cond.instanceMethod ({ cls := "LoopLaneModel", name := "number", desc := "(I)J" } : Jvm.MethodName)) ∈ lw_all := lw_g (lw_at lw_m6 89 rfl) rfl
theorem q1362 : (Jvm.Cond.selects "LoopLaneModel" ({ cls := "LoopLaneModel", name := "number", desc := "(I)J" } : Jvm.MethodName) ({ cls := "LoopLaneModel", name := "number", desc := "(I)J" } : Jvm.MethodName)) ∈ lw_all := lw_g (lw_at lw_m6 90 rfl) rfl
theorem q1363 : (Jvm.Cond.code ({ cls := "LoopLaneModel", name := "number", desc := "(I)J" } : Jvm.MethodName) prog_15_method_21_code (4 : Nat) (Option.some Jvm.ClassFile.FieldType.long)) ∈ lw_all := lw_g (lw_at lw_m6 91 rfl) rfl
theorem q1365 : (Jvm.Cond.instanceMethod ({ cls := "LoopLaneModel", name := "whole", desc := "()I" } : Jvm.MethodName)) ∈ lw_all := lw_g (lw_at lw_m6 93 rfl) rfl
theorem q1366 : (Jvm.Cond.selects "LoopLaneModel" ({ cls := "LoopLaneModel", name := "whole", desc := "()I" } : Jvm.MethodName) ({ cls := "LoopLaneModel", name := "whole", desc := "()I" } : Jvm.MethodName)) ∈ lw_all := lw_g (lw_at lw_m6 94 rfl) rfl
theorem q1367 : (Jvm.Cond.code ({ cls := "LoopLaneModel", name := "whole", desc := "()I" } : Jvm.MethodName) prog_15_method_22_code (2 : Nat) (Option.some Jvm.ClassFile.FieldType.int)) ∈ lw_all := lw_g (lw_at lw_m6 95 rfl) rfl
theorem q1369 : (Jvm.Cond.instanceMethod ({ cls := "LoopLaneModel", name := "count", desc := "(I)I" } : Jvm.MethodName)) ∈ lw_all := lw_g (lw_at lw_m6 97 rfl) rfl
theorem q1370 : (Jvm.Cond.selects "LoopLaneModel" ({ cls := "LoopLaneModel", name := "count", desc := "(I)I" } : Jvm.MethodName) ({ cls := "LoopLaneModel", name := "count", desc := "(I)I" } : Jvm.MethodName)) ∈ lw_all := lw_g (lw_at lw_m6 98 rfl) rfl
theorem q1371 : (Jvm.Cond.code ({ cls := "LoopLaneModel", name := "count", desc := "(I)I" } : Jvm.MethodName) prog_15_method_23_code (4 : Nat) (Option.some Jvm.ClassFile.FieldType.int)) ∈ lw_all := lw_g (lw_at lw_m6 99 rfl) rfl
theorem q1372 : (Jvm.Cond.methodLink "LoopLaneModel" (177 : Nat) ({ cls := "LoopLaneModel", name := "gather", desc := "()V" } : Jvm.MethodName)) ∈ lw_all := lw_g (lw_at lw_m6 100 rfl) rfl
theorem q1373 : (Jvm.Cond.privateMethod ({ cls := "LoopLaneModel", name := "gather", desc := "()V" } : Jvm.MethodName)) ∈ lw_tbl := lw_at lw_m6 101 rfl
theorem q1374 : (Jvm.Cond.instanceMethod ({ cls := "LoopLaneModel", name := "gather", desc := "()V" } : Jvm.MethodName)) ∈ lw_all := lw_g (lw_at lw_m6 102 rfl) rfl
theorem q1375 : (Jvm.Cond.code ({ cls := "LoopLaneModel", name := "gather", desc := "()V" } : Jvm.MethodName) prog_15_method_26_code (3 : Nat) (Option.none : Option Jvm.ClassFile.FieldType)) ∈ lw_all := lw_g (lw_at lw_m6 103 rfl) rfl
theorem q1376 : (Jvm.Cond.methodLink "LoopLaneModel" (183 : Nat) ({ cls := "LoopLaneModel", name := "enter", desc := "(IIII)V" } : Jvm.MethodName)) ∈ lw_all := lw_g (lw_at lw_m6 104 rfl) rfl
theorem q1377 : (Jvm.Cond.privateMethod ({ cls := "LoopLaneModel", name := "enter", desc := "(IIII)V" } : Jvm.MethodName)) ∈ lw_tbl := lw_at lw_m6 105 rfl
theorem q1378 : (Jvm.Cond.instanceMethod ({ cls := "LoopLaneModel", name := "enter", desc := "(IIII)V" } : Jvm.MethodName)) ∈ lw_all := lw_g (lw_at lw_m6 106 rfl) rfl
theorem q1379 : (Jvm.Cond.code ({ cls := "LoopLaneModel", name := "enter", desc := "(IIII)V" } : Jvm.MethodName) prog_15_method_24_code (5 : Nat) (Option.none : Option Jvm.ClassFile.FieldType)) ∈ lw_all := lw_g (lw_at lw_m6 107 rfl) rfl
theorem q1380 : (Jvm.Cond.methodLink "LoopLaneModel" (186 : Nat) ({ cls := "LoopLaneModel", name := "gatherTwo", desc := "(II)V" } : Jvm.MethodName)) ∈ lw_all := lw_g (lw_at lw_m6 108 rfl) rfl
theorem q1381 : (Jvm.Cond.privateMethod ({ cls := "LoopLaneModel", name := "gatherTwo", desc := "(II)V" } : Jvm.MethodName)) ∈ lw_tbl := lw_at lw_m6 109 rfl
theorem q1382 : (Jvm.Cond.instanceMethod ({ cls := "LoopLaneModel", name := "gatherTwo", desc := "(II)V" } : Jvm.MethodName)) ∈ lw_all := lw_g (lw_at lw_m6 110 rfl) rfl
theorem q1383 : (Jvm.Cond.code ({ cls := "LoopLaneModel", name := "gatherTwo", desc := "(II)V" } : Jvm.MethodName) prog_15_method_27_code (5 : Nat) (Option.none : Option Jvm.ClassFile.FieldType)) ∈ lw_all := lw_g (lw_at lw_m6 111 rfl) rfl
theorem q1384 : (Jvm.Cond.methodLink "LoopLaneModel" (190 : Nat) ({ cls := "LoopLaneModel", name := "isOfRow", desc := "(I)Z" } : Jvm.MethodName)) ∈ lw_all := lw_g (lw_at lw_m6 112 rfl) rfl
theorem q1385 : (Jvm.Cond.privateMethod ({ cls := "LoopLaneModel", name := "isOfRow", desc := "(I)Z" } : Jvm.MethodName)) ∈ lw_tbl := lw_at lw_m6 113 rfl
theorem q1386 : (Jvm.Cond.instanceMethod ({ cls := "LoopLaneModel", name := "isOfRow", desc := "(I)Z" } : Jvm.MethodName)) ∈ lw_all := lw_g (lw_at lw_m6 114 rfl) rfl
theorem q1387 : (Jvm.Cond.code ({ cls := "LoopLaneModel", name := "isOfRow", desc := "(I)Z" } : Jvm.MethodName) prog_15_method_25_code (2 : Nat) (Option.some Jvm.ClassFile.FieldType.boolean)) ∈ lw_all := lw_g (lw_at lw_m6 115 rfl) rfl
theorem q1389 : (Jvm.Cond.instanceMethod ({ cls := "LoopLaneModel", name := "lowest", desc := "()I" } : Jvm.MethodName)) ∈ lw_all := lw_g (lw_at lw_m6 117 rfl) rfl
theorem q1390 : (Jvm.Cond.selects "LoopLaneModel" ({ cls := "LoopLaneModel", name := "lowest", desc := "()I" } : Jvm.MethodName) ({ cls := "LoopLaneModel", name := "lowest", desc := "()I" } : Jvm.MethodName)) ∈ lw_all := lw_g (lw_at lw_m6 118 rfl) rfl
theorem q1391 : (Jvm.Cond.code ({ cls := "LoopLaneModel", name := "lowest", desc := "()I" } : Jvm.MethodName) prog_15_method_34_code (2 : Nat) (Option.some Jvm.ClassFile.FieldType.int)) ∈ lw_all := lw_g (lw_at lw_m6 119 rfl) rfl
theorem q1392 : (Jvm.Cond.methodLink "LoopLaneModel" (210 : Nat) ({ cls := "LoopLaneModel", name := "isReady", desc := "()Z" } : Jvm.MethodName)) ∈ lw_all := lw_g (lw_at lw_m6 120 rfl) rfl
theorem q1393 : (Jvm.Cond.privateMethod ({ cls := "LoopLaneModel", name := "isReady", desc := "()Z" } : Jvm.MethodName)) ∈ lw_tbl := lw_at lw_m6 121 rfl
theorem q1394 : (Jvm.Cond.instanceMethod ({ cls := "LoopLaneModel", name := "isReady", desc := "()Z" } : Jvm.MethodName)) ∈ lw_all := lw_g (lw_at lw_m6 122 rfl) rfl
theorem q1395 : (Jvm.Cond.code ({ cls := "LoopLaneModel", name := "isReady", desc := "()Z" } : Jvm.MethodName) prog_15_method_32_code (1 : Nat) (Option.some Jvm.ClassFile.FieldType.boolean)) ∈ lw_all := lw_g (lw_at lw_m6 123 rfl) rfl
theorem q1396 : (Jvm.Cond.methodLink "LoopLaneModel" (200 : Nat) ({ cls := "LoopLaneModel", name := "whole", desc := "()I" } : Jvm.MethodName)) ∈ lw_all := lw_g (lw_at lw_m6 124 rfl) rfl
theorem q1397 : (Jvm.Cond.methodLink "LoopLaneModel" (214 : Nat) ({ cls := "LoopLaneModel", name := "lowestBeat", desc := "()I" } : Jvm.MethodName)) ∈ lw_all := lw_g (lw_at lw_m6 125 rfl) rfl
theorem q1398 : (Jvm.Cond.privateMethod ({ cls := "LoopLaneModel", name := "lowestBeat", desc := "()I" } : Jvm.MethodName)) ∈ lw_tbl := lw_at lw_m6 126 rfl
theorem q1399 : (Jvm.Cond.instanceMethod ({ cls := "LoopLaneModel", name := "lowestBeat", desc := "()I" } : Jvm.MethodName)) ∈ lw_all := lw_g (lw_at lw_m6 127 rfl) rfl
theorem q1400 : (Jvm.Cond.code ({ cls := "LoopLaneModel", name := "lowestBeat", desc := "()I" } : Jvm.MethodName) prog_15_method_33_code (3 : Nat) (Option.some Jvm.ClassFile.FieldType.int)) ∈ lw_all := lw_g (lw_at lw_m6 128 rfl) rfl
theorem q1401 : (Jvm.Cond.methodLink "LoopLaneModel" (204 : Nat) ({ cls := "LoopLaneModel", name := "byUnits", desc := "()I" } : Jvm.MethodName)) ∈ lw_all := lw_g (lw_at lw_m6 129 rfl) rfl
theorem q1402 : (Jvm.Cond.privateMethod ({ cls := "LoopLaneModel", name := "byUnits", desc := "()I" } : Jvm.MethodName)) ∈ lw_tbl := lw_at lw_m6 130 rfl
theorem q1403 : (Jvm.Cond.instanceMethod ({ cls := "LoopLaneModel", name := "byUnits", desc := "()I" } : Jvm.MethodName)) ∈ lw_all := lw_g (lw_at lw_m6 131 rfl) rfl
theorem q1404 : (Jvm.Cond.code ({ cls := "LoopLaneModel", name := "byUnits", desc := "()I" } : Jvm.MethodName) prog_15_method_29_code (5 : Nat) (Option.some Jvm.ClassFile.FieldType.int)) ∈ lw_all := lw_g (lw_at lw_m6 132 rfl) rfl
theorem q1405 : (Jvm.Cond.methodLink "LoopLaneModel" (193 : Nat) ({ cls := "LoopLaneModel", name := "bits", desc := "(I)I" } : Jvm.MethodName)) ∈ lw_all := lw_g (lw_at lw_m6 133 rfl) rfl
theorem q1406 : (Jvm.Cond.static ({ cls := "LoopLaneModel", name := "bits", desc := "(I)I" } : Jvm.MethodName)) ∈ lw_all := lw_g (lw_at lw_m6 134 rfl) rfl
theorem q1407 : (Jvm.Cond.code ({ cls := "LoopLaneModel", name := "bits", desc := "(I)I" } : Jvm.MethodName) prog_15_method_28_code (3 : Nat) (Option.some Jvm.ClassFile.FieldType.int)) ∈ lw_all := lw_g (lw_at lw_m6 135 rfl) rfl
theorem q1408 : (Jvm.Cond.constant "LoopLaneModel" (196 : Nat) (100000 : Int32)) ∈ lw_all := lw_g (lw_at lw_m6 136 rfl) rfl
theorem q1409 : (Jvm.Cond.methodLink "LoopLaneModel" (207 : Nat) ({ cls := "LoopLaneModel", name := "byRings", desc := "()I" } : Jvm.MethodName)) ∈ lw_all := lw_g (lw_at lw_m6 137 rfl) rfl
theorem q1410 : (Jvm.Cond.privateMethod ({ cls := "LoopLaneModel", name := "byRings", desc := "()I" } : Jvm.MethodName)) ∈ lw_tbl := lw_at lw_m6 138 rfl
theorem q1411 : (Jvm.Cond.instanceMethod ({ cls := "LoopLaneModel", name := "byRings", desc := "()I" } : Jvm.MethodName)) ∈ lw_all := lw_g (lw_at lw_m6 139 rfl) rfl
theorem q1412 : (Jvm.Cond.code ({ cls := "LoopLaneModel", name := "byRings", desc := "()I" } : Jvm.MethodName) prog_15_method_31_code (2 : Nat) (Option.some Jvm.ClassFile.FieldType.int)) ∈ lw_all := lw_g (lw_at lw_m6 140 rfl) rfl
theorem q1413 : (Jvm.Cond.methodLink "LoopLaneModel" (197 : Nat) ({ cls := "LoopLaneModel", name := "rests", desc := "(I)Z" } : Jvm.MethodName)) ∈ lw_all := lw_g (lw_at lw_m6 141 rfl) rfl
theorem q1414 : (Jvm.Cond.privateMethod ({ cls := "LoopLaneModel", name := "rests", desc := "(I)Z" } : Jvm.MethodName)) ∈ lw_tbl := lw_at lw_m6 142 rfl
theorem q1415 : (Jvm.Cond.instanceMethod ({ cls := "LoopLaneModel", name := "rests", desc := "(I)Z" } : Jvm.MethodName)) ∈ lw_all := lw_g (lw_at lw_m6 143 rfl) rfl
theorem q1416 : (Jvm.Cond.code ({ cls := "LoopLaneModel", name := "rests", desc := "(I)Z" } : Jvm.MethodName) prog_15_method_30_code (6 : Nat) (Option.some Jvm.ClassFile.FieldType.boolean)) ∈ lw_all := lw_g (lw_at lw_m6 144 rfl) rfl
theorem q1418 : (Jvm.Cond.instanceMethod ({ cls := "LoopLaneModel", name := "lay", desc := "()I" } : Jvm.MethodName)) ∈ lw_all := lw_g (lw_at lw_m6 146 rfl) rfl
theorem q1419 : (Jvm.Cond.selects "LoopLaneModel" ({ cls := "LoopLaneModel", name := "lay", desc := "()I" } : Jvm.MethodName) ({ cls := "LoopLaneModel", name := "lay", desc := "()I" } : Jvm.MethodName)) ∈ lw_all := lw_g (lw_at lw_m6 147 rfl) rfl
theorem q1420 : (Jvm.Cond.code ({ cls := "LoopLaneModel", name := "lay", desc := "()I" } : Jvm.MethodName) prog_15_method_39_code (4 : Nat) (Option.some Jvm.ClassFile.FieldType.int)) ∈ lw_all := lw_g (lw_at lw_m6 148 rfl) rfl
theorem q1421 : (Jvm.Cond.methodLink "LoopLaneModel" (230 : Nat) ({ cls := "LoopLaneModel", name := "tries", desc := "(I)I" } : Jvm.MethodName)) ∈ lw_all := lw_g (lw_at lw_m6 149 rfl) rfl
theorem q1422 : (Jvm.Cond.privateMethod ({ cls := "LoopLaneModel", name := "tries", desc := "(I)I" } : Jvm.MethodName)) ∈ lw_tbl := lw_at lw_m6 150 rfl
theorem q1423 : (Jvm.Cond.instanceMethod ({ cls := "LoopLaneModel", name := "tries", desc := "(I)I" } : Jvm.MethodName)) ∈ lw_all := lw_g (lw_at lw_m6 151 rfl) rfl
theorem q1424 : (Jvm.Cond.code ({ cls := "LoopLaneModel", name := "tries", desc := "(I)I" } : Jvm.MethodName) prog_15_method_38_code (3 : Nat) (Option.some Jvm.ClassFile.FieldType.int)) ∈ lw_all := lw_g (lw_at lw_m6 152 rfl) rfl
theorem q1425 : (Jvm.Cond.methodLink "LoopLaneModel" (224 : Nat) ({ cls := "LoopLaneModel", name := "fits", desc := "(II)Z" } : Jvm.MethodName)) ∈ lw_all := lw_g (lw_at lw_m6 153 rfl) rfl
theorem q1426 : (Jvm.Cond.privateMethod ({ cls := "LoopLaneModel", name := "fits", desc := "(II)Z" } : Jvm.MethodName)) ∈ lw_tbl := lw_at lw_m6 154 rfl
theorem q1427 : (Jvm.Cond.instanceMethod ({ cls := "LoopLaneModel", name := "fits", desc := "(II)Z" } : Jvm.MethodName)) ∈ lw_all := lw_g (lw_at lw_m6 155 rfl) rfl
theorem q1428 : (Jvm.Cond.code ({ cls := "LoopLaneModel", name := "fits", desc := "(II)Z" } : Jvm.MethodName) prog_15_method_35_code (6 : Nat) (Option.some Jvm.ClassFile.FieldType.boolean)) ∈ lw_all := lw_g (lw_at lw_m6 156 rfl) rfl
theorem q1429 : (Jvm.Cond.methodLink "LoopLaneModel" (227 : Nat) ({ cls := "LoopLaneModel", name := "holds", desc := "(II)Z" } : Jvm.MethodName)) ∈ lw_all := lw_g (lw_at lw_m6 157 rfl) rfl
theorem q1430 : (Jvm.Cond.privateMethod ({ cls := "LoopLaneModel", name := "holds", desc := "(II)Z" } : Jvm.MethodName)) ∈ lw_tbl := lw_at lw_m6 158 rfl
theorem q1431 : (Jvm.Cond.instanceMethod ({ cls := "LoopLaneModel", name := "holds", desc := "(II)Z" } : Jvm.MethodName)) ∈ lw_all := lw_g (lw_at lw_m6 159 rfl) rfl
theorem q1432 : (Jvm.Cond.code ({ cls := "LoopLaneModel", name := "holds", desc := "(II)Z" } : Jvm.MethodName) prog_15_method_37_code (9 : Nat) (Option.some Jvm.ClassFile.FieldType.boolean)) ∈ lw_all := lw_g (lw_at lw_m6 160 rfl) rfl
theorem q1433 : (Jvm.Cond.methodLink "LoopLaneModel" (217 : Nat) ({ cls := "LoopLaneModel", name := "cut", desc := "(II)I" } : Jvm.MethodName)) ∈ lw_all := lw_g (lw_at lw_m6 161 rfl) rfl
theorem q1434 : (Jvm.Cond.static ({ cls := "LoopLaneModel", name := "cut", desc := "(II)I" } : Jvm.MethodName)) ∈ lw_all := lw_g (lw_at lw_m6 162 rfl) rfl
theorem q1435 : (Jvm.Cond.code ({ cls := "LoopLaneModel", name := "cut", desc := "(II)I" } : Jvm.MethodName) prog_15_method_36_code (2 : Nat) (Option.some Jvm.ClassFile.FieldType.int)) ∈ lw_all := lw_g (lw_at lw_m6 163 rfl) rfl
theorem q1437 : (Jvm.Cond.instanceMethod ({ cls := "LoopLaneModel", name := "prove", desc := "(I)I" } : Jvm.MethodName)) ∈ lw_all := lw_g (lw_at lw_m6 165 rfl) rfl
theorem q1438 : (Jvm.Cond.selects "LoopLaneModel" ({ cls := "LoopLaneModel", name := "prove", desc := "(I)I" } : Jvm.MethodName) ({ cls := "LoopLaneModel", name := "prove", desc := "(I)I" } : Jvm.MethodName)) ∈ lw_all := lw_g (lw_at lw_m6 166 rfl) rfl
theorem q1439 : (Jvm.Cond.code ({ cls := "LoopLaneModel", name := "prove", desc := "(I)I" } : Jvm.MethodName) prog_15_method_40_code (2 : Nat) (Option.some Jvm.ClassFile.FieldType.int)) ∈ lw_all := lw_g (lw_at lw_m6 167 rfl) rfl
theorem q1440 : (Jvm.Cond.constantLong "LoopLaneModel" (233 : Nat) (60 : Int64)) ∈ lw_all := lw_g (lw_at lw_m6 168 rfl) rfl
theorem q1442 : (Jvm.Cond.instanceMethod ({ cls := "LoopLaneModel", name := "trials", desc := "()I" } : Jvm.MethodName)) ∈ lw_all := lw_g (lw_at lw_m6 170 rfl) rfl
theorem q1443 : (Jvm.Cond.selects "LoopLaneModel" ({ cls := "LoopLaneModel", name := "trials", desc := "()I" } : Jvm.MethodName) ({ cls := "LoopLaneModel", name := "trials", desc := "()I" } : Jvm.MethodName)) ∈ lw_all := lw_g (lw_at lw_m6 171 rfl) rfl
theorem q1444 : (Jvm.Cond.code ({ cls := "LoopLaneModel", name := "trials", desc := "()I" } : Jvm.MethodName) prog_15_method_41_code (1 : Nat) (Option.some Jvm.ClassFile.FieldType.int)) ∈ lw_all := lw_g (lw_at lw_m6 172 rfl) rfl
theorem q1446 : (Jvm.Cond.instanceMethod ({ cls := "LoopLaneModel", name := "laying", desc := "(I)I" } : Jvm.MethodName)) ∈ lw_all := lw_g (lw_at lw_m6 174 rfl) rfl
theorem q1447 : (Jvm.Cond.selects "LoopLaneModel" ({ cls := "LoopLaneModel", name := "laying", desc := "(I)I" } : Jvm.MethodName) ({ cls := "LoopLaneModel", name := "laying", desc := "(I)I" } : Jvm.MethodName)) ∈ lw_all := lw_g (lw_at lw_m6 175 rfl) rfl
theorem q1448 : (Jvm.Cond.code ({ cls := "LoopLaneModel", name := "laying", desc := "(I)I" } : Jvm.MethodName) prog_15_method_42_code (5 : Nat) (Option.some Jvm.ClassFile.FieldType.int)) ∈ lw_all := lw_g (lw_at lw_m6 176 rfl) rfl
theorem q1449 : (Jvm.Cond.constantLong "LoopLaneModel" (235 : Nat) (2 : Int64)) ∈ lw_all := lw_g (lw_at lw_m6 177 rfl) rfl
theorem q1451 : (Jvm.Cond.instanceMethod ({ cls := "LoopLaneModel", name := "tick", desc := "(II)I" } : Jvm.MethodName)) ∈ lw_all := lw_g (lw_at lw_m6 179 rfl) rfl
theorem q1452 : (Jvm.Cond.selects "LoopLaneModel" ({ cls := "LoopLaneModel", name := "tick", desc := "(II)I" } : Jvm.MethodName) ({ cls := "LoopLaneModel", name := "tick", desc := "(II)I" } : Jvm.MethodName)) ∈ lw_all := lw_g (lw_at lw_m6 180 rfl) rfl
theorem q1453 : (Jvm.Cond.code ({ cls := "LoopLaneModel", name := "tick", desc := "(II)I" } : Jvm.MethodName) prog_15_method_44_code (4 : Nat) (Option.some Jvm.ClassFile.FieldType.int)) ∈ lw_all := lw_g (lw_at lw_m6 181 rfl) rfl
theorem q1454 : (Jvm.Cond.methodLink "LoopLaneModel" (237 : Nat) ({ cls := "LoopLaneModel", name := "latestBegin", desc := "(I)I" } : Jvm.MethodName)) ∈ lw_all := lw_g (lw_at lw_m6 182 rfl) rfl
theorem q1455 : (Jvm.Cond.privateMethod ({ cls := "LoopLaneModel", name := "latestBegin", desc := "(I)I" } : Jvm.MethodName)) ∈ lw_tbl := lw_at lw_m6 183 rfl
theorem q1456 : (Jvm.Cond.instanceMethod ({ cls := "LoopLaneModel", name := "latestBegin", desc := "(I)I" } : Jvm.MethodName)) ∈ lw_all := lw_g (lw_at lw_m6 184 rfl) rfl
theorem q1457 : (Jvm.Cond.code ({ cls := "LoopLaneModel", name := "latestBegin", desc := "(I)I" } : Jvm.MethodName) prog_15_method_43_code (8 : Nat) (Option.some Jvm.ClassFile.FieldType.int)) ∈ lw_all := lw_g (lw_at lw_m6 185 rfl) rfl
theorem q1459 : (Jvm.Cond.instanceMethod ({ cls := "LoopLaneModel", name := "filled", desc := "(II)I" } : Jvm.MethodName)) ∈ lw_all := lw_g (lw_at lw_m6 187 rfl) rfl
theorem q1460 : (Jvm.Cond.selects "LoopLaneModel" ({ cls := "LoopLaneModel", name := "filled", desc := "(II)I" } : Jvm.MethodName) ({ cls := "LoopLaneModel", name := "filled", desc := "(II)I" } : Jvm.MethodName)) ∈ lw_all := lw_g (lw_at lw_m6 188 rfl) rfl
theorem q1461 : (Jvm.Cond.code ({ cls := "LoopLaneModel", name := "filled", desc := "(II)I" } : Jvm.MethodName) prog_15_method_45_code (6 : Nat) (Option.some Jvm.ClassFile.FieldType.int)) ∈ lw_all := lw_g (lw_at lw_m6 189 rfl) rfl
theorem q1463 : (Jvm.Cond.instanceMethod ({ cls := "LoopLaneModel", name := "names", desc := "(I)I" } : Jvm.MethodName)) ∈ lw_all := lw_g (lw_at lw_m6 191 rfl) rfl
theorem q1464 : (Jvm.Cond.selects "LoopLaneModel" ({ cls := "LoopLaneModel", name := "names", desc := "(I)I" } : Jvm.MethodName) ({ cls := "LoopLaneModel", name := "names", desc := "(I)I" } : Jvm.MethodName)) ∈ lw_all := lw_g (lw_at lw_m6 192 rfl) rfl
theorem q1465 : (Jvm.Cond.code ({ cls := "LoopLaneModel", name := "names", desc := "(I)I" } : Jvm.MethodName) prog_15_method_47_code (2 : Nat) (Option.some Jvm.ClassFile.FieldType.int)) ∈ lw_all := lw_g (lw_at lw_m6 193 rfl) rfl
theorem q1466 : (Jvm.Cond.methodLink "LoopLaneModel" (240 : Nat) ({ cls := "LoopLaneModel", name := "placesOf", desc := "(I)I" } : Jvm.MethodName)) ∈ lw_all := lw_g (lw_at lw_m6 194 rfl) rfl
theorem q1467 : (Jvm.Cond.privateMethod ({ cls := "LoopLaneModel", name := "placesOf", desc := "(I)I" } : Jvm.MethodName)) ∈ lw_tbl := lw_at lw_m6 195 rfl
theorem q1468 : (Jvm.Cond.instanceMethod ({ cls := "LoopLaneModel", name := "placesOf", desc := "(I)I" } : Jvm.MethodName)) ∈ lw_all := lw_g (lw_at lw_m6 196 rfl) rfl
theorem q1469 : (Jvm.Cond.code ({ cls := "LoopLaneModel", name := "placesOf", desc := "(I)I" } : Jvm.MethodName) prog_15_method_46_code (5 : Nat) (Option.some Jvm.ClassFile.FieldType.int)) ∈ lw_all := lw_g (lw_at lw_m6 197 rfl) rfl
theorem q1471 : (Jvm.Cond.instanceMethod ({ cls := "LoopLaneModel", name := "fewest", desc := "(I)I" } : Jvm.MethodName)) ∈ lw_all := lw_g (lw_at lw_m6 199 rfl) rfl
theorem q1472 : (Jvm.Cond.selects "LoopLaneModel" ({ cls := "LoopLaneModel", name := "fewest", desc := "(I)I" } : Jvm.MethodName) ({ cls := "LoopLaneModel", name := "fewest", desc := "(I)I" } : Jvm.MethodName)) ∈ lw_all := lw_g (lw_at lw_m6 200 rfl) rfl
theorem q1473 : (Jvm.Cond.code ({ cls := "LoopLaneModel", name := "fewest", desc := "(I)I" } : Jvm.MethodName) prog_15_method_48_code (6 : Nat) (Option.some Jvm.ClassFile.FieldType.int)) ∈ lw_all := lw_g (lw_at lw_m6 201 rfl) rfl
theorem q1475 : (Jvm.Cond.instanceMethod ({ cls := "LoopLaneModel", name := "forge", desc := "(II)I" } : Jvm.MethodName)) ∈ lw_all := lw_g (lw_at lw_m6 203 rfl) rfl
theorem q1476 : (Jvm.Cond.selects "LoopLaneModel" ({ cls := "LoopLaneModel", name := "forge", desc := "(II)I" } : Jvm.MethodName) ({ cls := "LoopLaneModel", name := "forge", desc := "(II)I" } : Jvm.MethodName)) ∈ lw_all := lw_g (lw_at lw_m6 204 rfl) rfl
theorem q1477 : (Jvm.Cond.code ({ cls := "LoopLaneModel", name := "forge", desc := "(II)I" } : Jvm.MethodName) prog_15_method_49_code (4 : Nat) (Option.some Jvm.ClassFile.FieldType.int)) ∈ lw_all := lw_g (lw_at lw_m6 205 rfl) rfl
theorem q1479 : (Jvm.Cond.instanceMethod ({ cls := "LoopLaneModel", name := "check", desc := "()I" } : Jvm.MethodName)) ∈ lw_all := lw_g (lw_at lw_m6 207 rfl) rfl
theorem q1480 : (Jvm.Cond.selects "LoopLaneModel" ({ cls := "LoopLaneModel", name := "check", desc := "()I" } : Jvm.MethodName) ({ cls := "LoopLaneModel", name := "check", desc := "()I" } : Jvm.MethodName)) ∈ lw_all := lw_g (lw_at lw_m6 208 rfl) rfl
theorem q1481 : (Jvm.Cond.code ({ cls := "LoopLaneModel", name := "check", desc := "()I" } : Jvm.MethodName) prog_15_method_52_code (3 : Nat) (Option.some Jvm.ClassFile.FieldType.int)) ∈ lw_all := lw_g (lw_at lw_m6 209 rfl) rfl
theorem q1482 : (Jvm.Cond.methodLink "LoopLaneModel" (243 : Nat) ({ cls := "LoopLaneModel", name := "isAhead", desc := "(I)Z" } : Jvm.MethodName)) ∈ lw_all := lw_g (lw_at lw_m6 210 rfl) rfl
theorem q1483 : (Jvm.Cond.privateMethod ({ cls := "LoopLaneModel", name := "isAhead", desc := "(I)Z" } : Jvm.MethodName)) ∈ lw_tbl := lw_at lw_m6 211 rfl
theorem q1484 : (Jvm.Cond.instanceMethod ({ cls := "LoopLaneModel", name := "isAhead", desc := "(I)Z" } : Jvm.MethodName)) ∈ lw_all := lw_g (lw_at lw_m6 212 rfl) rfl
theorem q1485 : (Jvm.Cond.code ({ cls := "LoopLaneModel", name := "isAhead", desc := "(I)Z" } : Jvm.MethodName) prog_15_method_51_code (2 : Nat) (Option.some Jvm.ClassFile.FieldType.boolean)) ∈ lw_all := lw_g (lw_at lw_m6 213 rfl) rfl
theorem q1486 : (Jvm.Cond.methodLink "LoopLaneModel" (246 : Nat) ({ cls := "LoopLaneModel", name := "filledAs", desc := "(II)I" } : Jvm.MethodName)) ∈ lw_all := lw_g (lw_at lw_m6 214 rfl) rfl
theorem q1487 : (Jvm.Cond.privateMethod ({ cls := "LoopLaneModel", name := "filledAs", desc := "(II)I" } : Jvm.MethodName)) ∈ lw_tbl := lw_at lw_m6 215 rfl
theorem q1488 : (Jvm.Cond.instanceMethod ({ cls := "LoopLaneModel", name := "filledAs", desc := "(II)I" } : Jvm.MethodName)) ∈ lw_all := lw_g (lw_at lw_m6 216 rfl) rfl
theorem q1489 : (Jvm.Cond.code ({ cls := "LoopLaneModel", name := "filledAs", desc := "(II)I" } : Jvm.MethodName) prog_15_method_53_code (6 : Nat) (Option.some Jvm.ClassFile.FieldType.int)) ∈ lw_all := lw_g (lw_at lw_m6 217 rfl) rfl
theorem q1491 : (Jvm.Cond.instanceMethod ({ cls := "LoopLaneModel", name := "wrong", desc := "(I)I" } : Jvm.MethodName)) ∈ lw_all := lw_g (lw_at lw_m6 219 rfl) rfl
theorem q1492 : (Jvm.Cond.selects "LoopLaneModel" ({ cls := "LoopLaneModel", name := "wrong", desc := "(I)I" } : Jvm.MethodName) ({ cls := "LoopLaneModel", name := "wrong", desc := "(I)I" } : Jvm.MethodName)) ∈ lw_all := lw_g (lw_at lw_m6 220 rfl) rfl
theorem q1493 : (Jvm.Cond.code ({ cls := "LoopLaneModel", name := "wrong", desc := "(I)I" } : Jvm.MethodName) prog_15_method_54_code (2 : Nat) (Option.some Jvm.ClassFile.FieldType.int)) ∈ lw_all := lw_g (lw_at lw_m6 221 rfl) rfl
theorem q1495 : (Jvm.Cond.instanceMethod ({ cls := "LoopLaneModel", name := "row", desc := "(IIZ)I" } : Jvm.MethodName)) ∈ lw_all := lw_g (lw_at lw_m6 223 rfl) rfl
theorem q1496 : (Jvm.Cond.selects "LoopLaneModel" ({ cls := "LoopLaneModel", name := "row", desc := "(IIZ)I" } : Jvm.MethodName) ({ cls := "LoopLaneModel", name := "row", desc := "(IIZ)I" } : Jvm.MethodName)) ∈ lw_all := lw_g (lw_at lw_m6 224 rfl) rfl
theorem q1497 : (Jvm.Cond.code ({ cls := "LoopLaneModel", name := "row", desc := "(IIZ)I" } : Jvm.MethodName) prog_15_method_56_code (5 : Nat) (Option.some Jvm.ClassFile.FieldType.int)) ∈ lw_all := lw_g (lw_at lw_m6 225 rfl) rfl
theorem q1498 : (Jvm.Cond.methodLink "LoopLaneModel" (249 : Nat) ({ cls := "LoopLaneModel", name := "isSlot", desc := "(I)Z" } : Jvm.MethodName)) ∈ lw_all := lw_g (lw_at lw_m6 226 rfl) rfl
theorem q1499 : (Jvm.Cond.static ({ cls := "LoopLaneModel", name := "isSlot", desc := "(I)Z" } : Jvm.MethodName)) ∈ lw_all := lw_g (lw_at lw_m6 227 rfl) rfl
theorem q1500 : (Jvm.Cond.code ({ cls := "LoopLaneModel", name := "isSlot", desc := "(I)Z" } : Jvm.MethodName) prog_15_method_55_code (1 : Nat) (Option.some Jvm.ClassFile.FieldType.boolean)) ∈ lw_all := lw_g (lw_at lw_m6 228 rfl) rfl
theorem q1501 : (Jvm.Cond.constantLong "LoopLaneModel" (252 : Nat) (40 : Int64)) ∈ lw_all := lw_g (lw_at lw_m6 229 rfl) rfl
theorem q1503 : (Jvm.Cond.instanceMethod ({ cls := "LoopLaneModel", name := "empty", desc := "(I)I" } : Jvm.MethodName)) ∈ lw_all := lw_g (lw_at lw_m6 231 rfl) rfl
theorem q1504 : (Jvm.Cond.selects "LoopLaneModel" ({ cls := "LoopLaneModel", name := "empty", desc := "(I)I" } : Jvm.MethodName) ({ cls := "LoopLaneModel", name := "empty", desc := "(I)I" } : Jvm.MethodName)) ∈ lw_all := lw_g (lw_at lw_m6 232 rfl) rfl
theorem q1505 : (Jvm.Cond.code ({ cls := "LoopLaneModel", name := "empty", desc := "(I)I" } : Jvm.MethodName) prog_15_method_57_code (3 : Nat) (Option.some Jvm.ClassFile.FieldType.int)) ∈ lw_all := lw_g (lw_at lw_m6 233 rfl) rfl
theorem q1507 : (Jvm.Cond.instanceMethod ({ cls := "LoopLaneModel", name := "set", desc := "(IIJ)I" } : Jvm.MethodName)) ∈ lw_all := lw_g (lw_at lw_m6 235 rfl) rfl
theorem q1508 : (Jvm.Cond.selects "LoopLaneModel" ({ cls := "LoopLaneModel", name := "set", desc := "(IIJ)I" } : Jvm.MethodName) ({ cls := "LoopLaneModel", name := "set", desc := "(IIJ)I" } : Jvm.MethodName)) ∈ lw_all := lw_g (lw_at lw_m6 236 rfl) rfl
theorem q1509 : (Jvm.Cond.code ({ cls := "LoopLaneModel", name := "set", desc := "(IIJ)I" } : Jvm.MethodName) prog_15_method_59_code (6 : Nat) (Option.some Jvm.ClassFile.FieldType.int)) ∈ lw_all := lw_g (lw_at lw_m6 237 rfl) rfl
theorem q1510 : (Jvm.Cond.methodLink "LoopLaneModel" (254 : Nat) ({ cls := "LoopLaneModel", name := "why", desc := "(IJ)I" } : Jvm.MethodName)) ∈ lw_all := lw_g (lw_at lw_m6 238 rfl) rfl
theorem q1511 : (Jvm.Cond.privateMethod ({ cls := "LoopLaneModel", name := "why", desc := "(IJ)I" } : Jvm.MethodName)) ∈ lw_tbl := lw_at lw_m6 239 rfl
theorem q1512 : (Jvm.Cond.instanceMethod ({ cls := "LoopLaneModel", name := "why", desc := "(IJ)I" } : Jvm.MethodName)) ∈ lw_all := lw_g (lw_at lw_m7 0 rfl) rfl
theorem q1513 : (Jvm.Cond.code ({ cls := "LoopLaneModel", name := "why", desc := "(IJ)I" } : Jvm.MethodName) prog_15_method_58_code (4 : Nat) (Option.some Jvm.ClassFile.FieldType.int)) ∈ lw_all := lw_g (lw_at lw_m7 1 rfl) rfl
theorem q1515 : (Jvm.Cond.instanceMethod ({ cls := "LoopLaneModel", name := "get", desc := "(II)J" } : Jvm.MethodName)) ∈ lw_all := lw_g (lw_at lw_m7 3 rfl) rfl
theorem q1516 : (Jvm.Cond.selects "LoopLaneModel" ({ cls := "LoopLaneModel", name := "get", desc := "(II)J" } : Jvm.MethodName) ({ cls := "LoopLaneModel", name := "get", desc := "(II)J" } : Jvm.MethodName)) ∈ lw_all := lw_g (lw_at lw_m7 4 rfl) rfl
theorem q1517 : (Jvm.Cond.code ({ cls := "LoopLaneModel", name := "get", desc := "(II)J" } : Jvm.MethodName) prog_15_method_60_code (5 : Nat) (Option.some Jvm.ClassFile.FieldType.long)) ∈ lw_all := lw_g (lw_at lw_m7 5 rfl) rfl
theorem q1519 : (Jvm.Cond.instanceMethod ({ cls := "LoopLaneModel", name := "copy", desc := "(IIIII)I" } : Jvm.MethodName)) ∈ lw_all := lw_g (lw_at lw_m7 7 rfl) rfl
theorem q1520 : (Jvm.Cond.selects "LoopLaneModel" ({ cls := "LoopLaneModel", name := "copy", desc := "(IIIII)I" } : Jvm.MethodName) ({ cls := "LoopLaneModel", name := "copy", desc := "(IIIII)I" } : Jvm.MethodName)) ∈ lw_all := lw_g (lw_at lw_m7 8 rfl) rfl
theorem q1521 : (Jvm.Cond.code ({ cls := "LoopLaneModel", name := "copy", desc := "(IIIII)I" } : Jvm.MethodName) prog_15_method_61_code (7 : Nat) (Option.some Jvm.ClassFile.FieldType.int)) ∈ lw_all := lw_g (lw_at lw_m7 9 rfl) rfl
theorem q1523 : (Jvm.Cond.instanceMethod ({ cls := "LoopLaneModel", name := "run", desc := "(IZ)I" } : Jvm.MethodName)) ∈ lw_all := lw_g (lw_at lw_m7 11 rfl) rfl
theorem q1524 : (Jvm.Cond.selects "LoopLaneModel" ({ cls := "LoopLaneModel", name := "run", desc := "(IZ)I" } : Jvm.MethodName) ({ cls := "LoopLaneModel", name := "run", desc := "(IZ)I" } : Jvm.MethodName)) ∈ lw_all := lw_g (lw_at lw_m7 12 rfl) rfl
theorem q1525 : (Jvm.Cond.code ({ cls := "LoopLaneModel", name := "run", desc := "(IZ)I" } : Jvm.MethodName) prog_15_method_68_code (5 : Nat) (Option.some Jvm.ClassFile.FieldType.int)) ∈ lw_all := lw_g (lw_at lw_m7 13 rfl) rfl
theorem q1526 : (Jvm.Cond.methodLink "LoopLaneModel" (286 : Nat) ({ cls := "LoopLaneModel", name := "whyNoRun", desc := "(IZ)I" } : Jvm.MethodName)) ∈ lw_all := lw_g (lw_at lw_m7 14 rfl) rfl
theorem q1527 : (Jvm.Cond.privateMethod ({ cls := "LoopLaneModel", name := "whyNoRun", desc := "(IZ)I" } : Jvm.MethodName)) ∈ lw_tbl := lw_at lw_m7 15 rfl
theorem q1528 : (Jvm.Cond.instanceMethod ({ cls := "LoopLaneModel", name := "whyNoRun", desc := "(IZ)I" } : Jvm.MethodName)) ∈ lw_all := lw_g (lw_at lw_m7 16 rfl) rfl
theorem q1529 : (Jvm.Cond.code ({ cls := "LoopLaneModel", name := "whyNoRun", desc := "(IZ)I" } : Jvm.MethodName) prog_15_method_67_code (3 : Nat) (Option.some Jvm.ClassFile.FieldType.int)) ∈ lw_all := lw_g (lw_at lw_m7 17 rfl) rfl
theorem q1530 : (Jvm.Cond.methodLink "LoopLaneModel" (290 : Nat) ({ cls := "LoopLaneModel", name := "laying", desc := "(I)I" } : Jvm.MethodName)) ∈ lw_all := lw_g (lw_at lw_m7 18 rfl) rfl
theorem q1531 : (Jvm.Cond.methodLink "LoopLaneModel" (293 : Nat) ({ cls := "LoopLaneModel", name := "laid", desc := "(I)V" } : Jvm.MethodName)) ∈ lw_all := lw_g (lw_at lw_m7 19 rfl) rfl
theorem q1532 : (Jvm.Cond.privateMethod ({ cls := "LoopLaneModel", name := "laid", desc := "(I)V" } : Jvm.MethodName)) ∈ lw_tbl := lw_at lw_m7 20 rfl
theorem q1533 : (Jvm.Cond.instanceMethod ({ cls := "LoopLaneModel", name := "laid", desc := "(I)V" } : Jvm.MethodName)) ∈ lw_all := lw_g (lw_at lw_m7 21 rfl) rfl
theorem q1534 : (Jvm.Cond.code ({ cls := "LoopLaneModel", name := "laid", desc := "(I)V" } : Jvm.MethodName) prog_15_method_66_code (8 : Nat) (Option.none : Option Jvm.ClassFile.FieldType)) ∈ lw_all := lw_g (lw_at lw_m7 22 rfl) rfl
theorem q1535 : (Jvm.Cond.methodLink "LoopLaneModel" (283 : Nat) ({ cls := "LoopLaneModel", name := "does", desc := "(II)I" } : Jvm.MethodName)) ∈ lw_all := lw_g (lw_at lw_m7 23 rfl) rfl
theorem q1536 : (Jvm.Cond.privateMethod ({ cls := "LoopLaneModel", name := "does", desc := "(II)I" } : Jvm.MethodName)) ∈ lw_tbl := lw_at lw_m7 24 rfl
theorem q1537 : (Jvm.Cond.instanceMethod ({ cls := "LoopLaneModel", name := "does", desc := "(II)I" } : Jvm.MethodName)) ∈ lw_all := lw_g (lw_at lw_m7 25 rfl) rfl
theorem q1538 : (Jvm.Cond.code ({ cls := "LoopLaneModel", name := "does", desc := "(II)I" } : Jvm.MethodName) prog_15_method_64_code (11 : Nat) (Option.some Jvm.ClassFile.FieldType.int)) ∈ lw_all := lw_g (lw_at lw_m7 26 rfl) rfl
theorem q1539 : (Jvm.Cond.methodLink "LoopLaneModel" (279 : Nat) ({ cls := "LoopLaneModel", name := "value", desc := "(III)J" } : Jvm.MethodName)) ∈ lw_all := lw_g (lw_at lw_m7 27 rfl) rfl
theorem q1540 : (Jvm.Cond.privateMethod ({ cls := "LoopLaneModel", name := "value", desc := "(III)J" } : Jvm.MethodName)) ∈ lw_tbl := lw_at lw_m7 28 rfl
theorem q1541 : (Jvm.Cond.instanceMethod ({ cls := "LoopLaneModel", name := "value", desc := "(III)J" } : Jvm.MethodName)) ∈ lw_all := lw_g (lw_at lw_m7 29 rfl) rfl
theorem q1542 : (Jvm.Cond.code ({ cls := "LoopLaneModel", name := "value", desc := "(III)J" } : Jvm.MethodName) prog_15_method_63_code (6 : Nat) (Option.some Jvm.ClassFile.FieldType.long)) ∈ lw_all := lw_g (lw_at lw_m7 30 rfl) rfl
theorem q1543 : (Jvm.Cond.methodLink "LoopLaneModel" (297 : Nat) ({ cls := "LoopLaneModel", name := "plain", desc := "(I)V" } : Jvm.MethodName)) ∈ lw_all := lw_g (lw_at lw_m7 31 rfl) rfl
theorem q1544 : (Jvm.Cond.privateMethod ({ cls := "LoopLaneModel", name := "plain", desc := "(I)V" } : Jvm.MethodName)) ∈ lw_tbl := lw_at lw_m7 32 rfl
theorem q1545 : (Jvm.Cond.instanceMethod ({ cls := "LoopLaneModel", name := "plain", desc := "(I)V" } : Jvm.MethodName)) ∈ lw_all := lw_g (lw_at lw_m7 33 rfl) rfl
theorem q1546 : (Jvm.Cond.code ({ cls := "LoopLaneModel", name := "plain", desc := "(I)V" } : Jvm.MethodName) prog_15_method_65_code (4 : Nat) (Option.none : Option Jvm.ClassFile.FieldType)) ∈ lw_all := lw_g (lw_at lw_m7 34 rfl) rfl
theorem q1548 : (Jvm.Cond.instanceMethod ({ cls := "LoopLaneModel", name := "compare", desc := "(I)I" } : Jvm.MethodName)) ∈ lw_all := lw_g (lw_at lw_m7 36 rfl) rfl
theorem q1549 : (Jvm.Cond.selects "LoopLaneModel" ({ cls := "LoopLaneModel", name := "compare", desc := "(I)I" } : Jvm.MethodName) ({ cls := "LoopLaneModel", name := "compare", desc := "(I)I" } : Jvm.MethodName)) ∈ lw_all := lw_g (lw_at lw_m7 37 rfl) rfl
theorem q1550 : (Jvm.Cond.code ({ cls := "LoopLaneModel", name := "compare", desc := "(I)I" } : Jvm.MethodName) prog_15_method_69_code (3 : Nat) (Option.some Jvm.ClassFile.FieldType.int)) ∈ lw_all := lw_g (lw_at lw_m7 38 rfl) rfl
theorem q1552 : (Jvm.Cond.instanceMethod ({ cls := "LoopLaneModel", name := "told", desc := "(I)I" } : Jvm.MethodName)) ∈ lw_all := lw_g (lw_at lw_m7 40 rfl) rfl
theorem q1553 : (Jvm.Cond.selects "LoopLaneModel" ({ cls := "LoopLaneModel", name := "told", desc := "(I)I" } : Jvm.MethodName) ({ cls := "LoopLaneModel", name := "told", desc := "(I)I" } : Jvm.MethodName)) ∈ lw_all := lw_g (lw_at lw_m7 41 rfl) rfl
theorem q1554 : (Jvm.Cond.code ({ cls := "LoopLaneModel", name := "told", desc := "(I)I" } : Jvm.MethodName) prog_15_method_70_code (2 : Nat) (Option.some Jvm.ClassFile.FieldType.int)) ∈ lw_all := lw_g (lw_at lw_m7 42 rfl) rfl
theorem q1556 : (Jvm.Cond.instanceMethod ({ cls := "LoopLaneModel", name := "end", desc := "(I)J" } : Jvm.MethodName)) ∈ lw_all := lw_g (lw_at lw_m7 44 rfl) rfl
theorem q1557 : (Jvm.Cond.selects "LoopLaneModel" ({ cls := "LoopLaneModel", name := "end", desc := "(I)J" } : Jvm.MethodName) ({ cls := "LoopLaneModel", name := "end", desc := "(I)J" } : Jvm.MethodName)) ∈ lw_all := lw_g (lw_at lw_m7 45 rfl) rfl
theorem q1558 : (Jvm.Cond.code ({ cls := "LoopLaneModel", name := "end", desc := "(I)J" } : Jvm.MethodName) prog_15_method_71_code (3 : Nat) (Option.some Jvm.ClassFile.FieldType.long)) ∈ lw_all := lw_g (lw_at lw_m7 46 rfl) rfl
theorem q1560 : (Jvm.Cond.instanceMethod ({ cls := "LoopLaneModel", name := "again", desc := "()I" } : Jvm.MethodName)) ∈ lw_all := lw_g (lw_at lw_m7 48 rfl) rfl
theorem q1561 : (Jvm.Cond.selects "LoopLaneModel" ({ cls := "LoopLaneModel", name := "again", desc := "()I" } : Jvm.MethodName) ({ cls := "LoopLaneModel", name := "again", desc := "()I" } : Jvm.MethodName)) ∈ lw_all := lw_g (lw_at lw_m7 49 rfl) rfl
theorem q1562 : (Jvm.Cond.code ({ cls := "LoopLaneModel", name := "again", desc := "()I" } : Jvm.MethodName) prog_15_method_72_code (2 : Nat) (Option.some Jvm.ClassFile.FieldType.int)) ∈ lw_all := lw_g (lw_at lw_m7 50 rfl) rfl
theorem q1564 : (Jvm.Cond.instanceMethod ({ cls := "LoopLaneModel", name := "status", desc := "(I)I" } : Jvm.MethodName)) ∈ lw_all := lw_g (lw_at lw_m7 52 rfl) rfl
theorem q1565 : (Jvm.Cond.selects "LoopLaneModel" ({ cls := "LoopLaneModel", name := "status", desc := "(I)I" } : Jvm.MethodName) ({ cls := "LoopLaneModel", name := "status", desc := "(I)I" } : Jvm.MethodName)) ∈ lw_all := lw_g (lw_at lw_m7 53 rfl) rfl
theorem q1566 : (Jvm.Cond.code ({ cls := "LoopLaneModel", name := "status", desc := "(I)I" } : Jvm.MethodName) prog_15_method_73_code (2 : Nat) (Option.some Jvm.ClassFile.FieldType.int)) ∈ lw_all := lw_g (lw_at lw_m7 54 rfl) rfl
theorem q1567 : (Jvm.Cond.constantLong "LoopLaneModel" (300 : Nat) (-11 : Int64)) ∈ lw_all := lw_g (lw_at lw_m7 55 rfl) rfl
theorem q1568 : (Jvm.Cond.constantLong "LoopLaneModel" (302 : Nat) (-2 : Int64)) ∈ lw_all := lw_g (lw_at lw_m7 56 rfl) rfl
theorem in_X13 : ∀ w ∈ wsX130, w ∈ lw_all := lw_in wsX130 [1184, 1186, 1188, 1190, 1192, 1194, 1196, 1198, 1200, 1202, 1204, 1206, 1208, 1210, 1212, 1214, 1216, 1218, 1220, 1222, 1224, 1226, 1228, 1230, 1232, 1234, 1236, 1238, 1240, 1242, 1244, 1246, 1248, 1250, 1252, 1254, 1256, 1258, 1260, 1262, 1264, 1266, 1268, 1270, 1272] (by decide +kernel) (by decide +kernel)

/-! java/lang/ClassCastException -/
def RJ3 : String := "java/lang/ClassCastException"
def TJ3 : u_T := fun k => match k with
  | 0 => ("java/lang/Throwable", "backtrace", "Ljava/lang/Object;", false)
  | 1 => ("java/lang/Throwable", "detailMessage", "Ljava/lang/String;", false)
  | 2 => ("java/lang/Throwable", "cause", "Ljava/lang/Throwable;", false)
  | 3 => ("java/lang/Throwable", "stackTrace", "[Ljava/lang/StackTraceElement;", false)
  | 4 => ("java/lang/Throwable", "depth", "I", false)
  | _ => ("java/lang/Throwable", "suppressedExceptions", "Ljava/util/List;", false)
def tyJ3 : Nat → FieldType := fun k => match k with
  | 0 => .object "java/lang/Object"
  | 1 => .object "java/lang/String"
  | 2 => .object "java/lang/Throwable"
  | 3 => .array (.object "java/lang/StackTraceElement")
  | 4 => .int
  | _ => .object "java/util/List"
abbrev wsJ30 : List Cond := u_ws RJ3 TJ3 6
theorem nmJ3 : ∀ a, a < 6 → ∀ b, b < 6 → a ≠ b → (TJ3 a).2.1 ≠ (TJ3 b).2.1 := by decide +kernel
theorem tyJ3_ok : ∀ k, k < 6 → parseFieldDescriptor (TJ3 k).2.2.1 = some (tyJ3 k) := by decide +kernel
abbrev cJ3_init : ByteArray := prog_18_method_2_code
def yJ3_init : MethodName := ⟨RJ3, "<init>", "(Ljava/lang/String;)V"⟩
theorem q90 : (Jvm.Cond.initialized "java/lang/ClassCastException") ∈ lw_all := lw_g (lw_at lw_m1 18 rfl) rfl
theorem q224 : (Jvm.Cond.selects "java/lang/ClassCastException" ({ cls := "java/lang/Throwable", name := "fillInStackTrace", desc := "()Ljava/lang/Throwable;" } : Jvm.MethodName) ({ cls := "java/lang/Throwable", name := "fillInStackTrace", desc := "()Ljava/lang/Throwable;" } : Jvm.MethodName)) ∈ lw_all := lw_g (lw_at lw_m1 152 rfl) rfl
theorem q739 : (Jvm.Cond.instantiable "java/lang/ClassCastException" (6 : Nat)) ∈ lw_all := lw_g (lw_at lw_m3 187 rfl) rfl
theorem q740 : (Jvm.Cond.instanceMethod ({ cls := "java/lang/ClassCastException", name := "<init>", desc := "(Ljava/lang/String;)V" } : Jvm.MethodName)) ∈ lw_all := lw_g (lw_at lw_m3 188 rfl) rfl
theorem q741 : (Jvm.Cond.code ({ cls := "java/lang/ClassCastException", name := "<init>", desc := "(Ljava/lang/String;)V" } : Jvm.MethodName) prog_18_method_2_code (2 : Nat) (Option.none : Option Jvm.ClassFile.FieldType)) ∈ lw_all := lw_g (lw_at lw_m3 189 rfl) rfl
theorem q742 : (Jvm.Cond.methodLink "java/lang/ClassCastException" (7 : Nat) ({ cls := "java/lang/RuntimeException", name := "<init>", desc := "(Ljava/lang/String;)V" } : Jvm.MethodName)) ∈ lw_all := lw_g (lw_at lw_m3 190 rfl) rfl
theorem q751 : (Jvm.Cond.lays "java/lang/ClassCastException" "java/lang/Throwable" "backtrace" "Ljava/lang/Object;") ∈ lw_all := lw_g (lw_at lw_m3 199 rfl) rfl
theorem q752 : (Jvm.Cond.lays "java/lang/ClassCastException" "java/lang/Throwable" "detailMessage" "Ljava/lang/String;") ∈ lw_all := lw_g (lw_at lw_m3 200 rfl) rfl
theorem q753 : (Jvm.Cond.lays "java/lang/ClassCastException" "java/lang/Throwable" "cause" "Ljava/lang/Throwable;") ∈ lw_all := lw_g (lw_at lw_m3 201 rfl) rfl
theorem q754 : (Jvm.Cond.lays "java/lang/ClassCastException" "java/lang/Throwable" "stackTrace" "[Ljava/lang/StackTraceElement;") ∈ lw_all := lw_g (lw_at lw_m3 202 rfl) rfl
theorem q755 : (Jvm.Cond.lays "java/lang/ClassCastException" "java/lang/Throwable" "depth" "I") ∈ lw_all := lw_g (lw_at lw_m3 203 rfl) rfl
theorem q756 : (Jvm.Cond.lays "java/lang/ClassCastException" "java/lang/Throwable" "suppressedExceptions" "Ljava/util/List;") ∈ lw_all := lw_g (lw_at lw_m3 204 rfl) rfl
theorem q757 : (Jvm.Cond.superclass "java/lang/ClassCastException" "java/lang/RuntimeException") ∈ lw_all := lw_g (lw_at lw_m3 205 rfl) rfl
theorem q758 : (Jvm.Cond.castable "java/lang/ClassCastException" "java/lang/ClassCastException") ∈ lw_tbl := lw_at lw_m3 206 rfl
theorem q759 : (Jvm.Cond.selects "java/lang/ClassCastException" ({ cls := "java/lang/Throwable", name := "fillInStackTrace", desc := "(I)Ljava/lang/Throwable;" } : Jvm.MethodName) ({ cls := "java/lang/Throwable", name := "fillInStackTrace", desc := "(I)Ljava/lang/Throwable;" } : Jvm.MethodName)) ∈ lw_all := lw_g (lw_at lw_m3 207 rfl) rfl
theorem in_J3 : ∀ w ∈ wsJ30, w ∈ lw_all := lw_in wsJ30 [751, 752, 753, 754, 755, 756] (by decide +kernel) (by decide +kernel)

/-! java/lang/String -/
def RJ4 : String := "java/lang/String"
def TJ4 : u_T := fun k => match k with
  | 0 => ("java/lang/String", "value", "[B", true)
  | _ => ("java/lang/String", "coder", "B", true)
def tyJ4 : Nat → FieldType := fun k => match k with
  | 0 => .array .byte
  | _ => .byte
abbrev wsJ40 : List Cond := u_ws RJ4 TJ4 2
theorem nmJ4 : ∀ a, a < 2 → ∀ b, b < 2 → a ≠ b → (TJ4 a).2.1 ≠ (TJ4 b).2.1 := by decide +kernel
theorem tyJ4_ok : ∀ k, k < 2 → parseFieldDescriptor (TJ4 k).2.2.1 = some (tyJ4 k) := by decide +kernel
theorem q91 : (Jvm.Cond.initialized "java/lang/String") ∈ lw_all := lw_g (lw_at lw_m1 19 rfl) rfl
theorem q760 : (Jvm.Cond.instantiable "java/lang/String" (4 : Nat)) ∈ lw_all := lw_g (lw_at lw_m3 208 rfl) rfl
theorem q762 : (Jvm.Cond.laysFinal "java/lang/String" "java/lang/String" "value" "[B") ∈ lw_all := lw_g (lw_at lw_m3 210 rfl) rfl
theorem q763 : (Jvm.Cond.soleField "java/lang/String" "value") ∈ lw_all := lw_g (lw_at lw_m3 211 rfl) rfl
theorem q764 : (Jvm.Cond.laysFinal "java/lang/String" "java/lang/String" "coder" "B") ∈ lw_all := lw_g (lw_at lw_m3 212 rfl) rfl
theorem q765 : (Jvm.Cond.soleField "java/lang/String" "coder") ∈ lw_all := lw_g (lw_at lw_m3 213 rfl) rfl
theorem in_J4 : ∀ w ∈ wsJ40, w ∈ lw_all := lw_in wsJ40 [762, 764] (by decide +kernel) (by decide +kernel)

/-! java/lang/NegativeArraySizeException -/
def RJ5 : String := "java/lang/NegativeArraySizeException"
def TJ5 : u_T := fun k => match k with
  | 0 => ("java/lang/Throwable", "backtrace", "Ljava/lang/Object;", false)
  | 1 => ("java/lang/Throwable", "detailMessage", "Ljava/lang/String;", false)
  | 2 => ("java/lang/Throwable", "cause", "Ljava/lang/Throwable;", false)
  | 3 => ("java/lang/Throwable", "stackTrace", "[Ljava/lang/StackTraceElement;", false)
  | 4 => ("java/lang/Throwable", "depth", "I", false)
  | _ => ("java/lang/Throwable", "suppressedExceptions", "Ljava/util/List;", false)
def tyJ5 : Nat → FieldType := fun k => match k with
  | 0 => .object "java/lang/Object"
  | 1 => .object "java/lang/String"
  | 2 => .object "java/lang/Throwable"
  | 3 => .array (.object "java/lang/StackTraceElement")
  | 4 => .int
  | _ => .object "java/util/List"
abbrev wsJ50 : List Cond := u_ws RJ5 TJ5 6
theorem nmJ5 : ∀ a, a < 6 → ∀ b, b < 6 → a ≠ b → (TJ5 a).2.1 ≠ (TJ5 b).2.1 := by decide +kernel
theorem tyJ5_ok : ∀ k, k < 6 → parseFieldDescriptor (TJ5 k).2.2.1 = some (tyJ5 k) := by decide +kernel
abbrev cJ5_init : ByteArray := prog_23_method_2_code
def yJ5_init : MethodName := ⟨RJ5, "<init>", "(Ljava/lang/String;)V"⟩
theorem q92 : (Jvm.Cond.initialized "java/lang/NegativeArraySizeException") ∈ lw_all := lw_g (lw_at lw_m1 20 rfl) rfl
theorem q225 : (Jvm.Cond.selects "java/lang/NegativeArraySizeException" ({ cls := "java/lang/Throwable", name := "fillInStackTrace", desc := "()Ljava/lang/Throwable;" } : Jvm.MethodName) ({ cls := "java/lang/Throwable", name := "fillInStackTrace", desc := "()Ljava/lang/Throwable;" } : Jvm.MethodName)) ∈ lw_all := lw_g (lw_at lw_m1 153 rfl) rfl
theorem q783 : (Jvm.Cond.instantiable "java/lang/NegativeArraySizeException" (6 : Nat)) ∈ lw_all := lw_g (lw_at lw_m3 231 rfl) rfl
theorem q784 : (Jvm.Cond.instanceMethod ({ cls := "java/lang/NegativeArraySizeException", name := "<init>", desc := "(Ljava/lang/String;)V" } : Jvm.MethodName)) ∈ lw_all := lw_g (lw_at lw_m3 232 rfl) rfl
theorem q785 : (Jvm.Cond.code ({ cls := "java/lang/NegativeArraySizeException", name := "<init>", desc := "(Ljava/lang/String;)V" } : Jvm.MethodName) prog_23_method_2_code (2 : Nat) (Option.none : Option Jvm.ClassFile.FieldType)) ∈ lw_all := lw_g (lw_at lw_m3 233 rfl) rfl
theorem q786 : (Jvm.Cond.methodLink "java/lang/NegativeArraySizeException" (7 : Nat) ({ cls := "java/lang/RuntimeException", name := "<init>", desc := "(Ljava/lang/String;)V" } : Jvm.MethodName)) ∈ lw_all := lw_g (lw_at lw_m3 234 rfl) rfl
theorem q787 : (Jvm.Cond.lays "java/lang/NegativeArraySizeException" "java/lang/Throwable" "backtrace" "Ljava/lang/Object;") ∈ lw_all := lw_g (lw_at lw_m3 235 rfl) rfl
theorem q788 : (Jvm.Cond.lays "java/lang/NegativeArraySizeException" "java/lang/Throwable" "detailMessage" "Ljava/lang/String;") ∈ lw_all := lw_g (lw_at lw_m3 236 rfl) rfl
theorem q789 : (Jvm.Cond.lays "java/lang/NegativeArraySizeException" "java/lang/Throwable" "cause" "Ljava/lang/Throwable;") ∈ lw_all := lw_g (lw_at lw_m3 237 rfl) rfl
theorem q790 : (Jvm.Cond.lays "java/lang/NegativeArraySizeException" "java/lang/Throwable" "stackTrace" "[Ljava/lang/StackTraceElement;") ∈ lw_all := lw_g (lw_at lw_m3 238 rfl) rfl
theorem q791 : (Jvm.Cond.lays "java/lang/NegativeArraySizeException" "java/lang/Throwable" "depth" "I") ∈ lw_all := lw_g (lw_at lw_m3 239 rfl) rfl
theorem q792 : (Jvm.Cond.lays "java/lang/NegativeArraySizeException" "java/lang/Throwable" "suppressedExceptions" "Ljava/util/List;") ∈ lw_all := lw_g (lw_at lw_m4 0 rfl) rfl
theorem q793 : (Jvm.Cond.superclass "java/lang/NegativeArraySizeException" "java/lang/RuntimeException") ∈ lw_all := lw_g (lw_at lw_m4 1 rfl) rfl
theorem q794 : (Jvm.Cond.castable "java/lang/NegativeArraySizeException" "java/lang/NegativeArraySizeException") ∈ lw_tbl := lw_at lw_m4 2 rfl
theorem q795 : (Jvm.Cond.selects "java/lang/NegativeArraySizeException" ({ cls := "java/lang/Throwable", name := "fillInStackTrace", desc := "(I)Ljava/lang/Throwable;" } : Jvm.MethodName) ({ cls := "java/lang/Throwable", name := "fillInStackTrace", desc := "(I)Ljava/lang/Throwable;" } : Jvm.MethodName)) ∈ lw_all := lw_g (lw_at lw_m4 3 rfl) rfl
theorem in_J5 : ∀ w ∈ wsJ50, w ∈ lw_all := lw_in wsJ50 [787, 788, 789, 790, 791, 792] (by decide +kernel) (by decide +kernel)

/-! java/lang/NullPointerException -/
def RJ6 : String := "java/lang/NullPointerException"
def TJ6 : u_T := fun k => match k with
  | 0 => ("java/lang/Throwable", "backtrace", "Ljava/lang/Object;", false)
  | 1 => ("java/lang/Throwable", "detailMessage", "Ljava/lang/String;", false)
  | 2 => ("java/lang/Throwable", "cause", "Ljava/lang/Throwable;", false)
  | 3 => ("java/lang/Throwable", "stackTrace", "[Ljava/lang/StackTraceElement;", false)
  | 4 => ("java/lang/Throwable", "depth", "I", false)
  | 5 => ("java/lang/Throwable", "suppressedExceptions", "Ljava/util/List;", false)
  | 6 => ("java/lang/NullPointerException", "extendedMessageState", "I", false)
  | _ => ("java/lang/NullPointerException", "extendedMessage", "Ljava/lang/String;", false)
def tyJ6 : Nat → FieldType := fun k => match k with
  | 0 => .object "java/lang/Object"
  | 1 => .object "java/lang/String"
  | 2 => .object "java/lang/Throwable"
  | 3 => .array (.object "java/lang/StackTraceElement")
  | 4 => .int
  | 5 => .object "java/util/List"
  | 6 => .int
  | _ => .object "java/lang/String"
abbrev wsJ60 : List Cond := u_ws RJ6 TJ6 8
theorem nmJ6 : ∀ a, a < 8 → ∀ b, b < 8 → a ≠ b → (TJ6 a).2.1 ≠ (TJ6 b).2.1 := by decide +kernel
theorem tyJ6_ok : ∀ k, k < 8 → parseFieldDescriptor (TJ6 k).2.2.1 = some (tyJ6 k) := by decide +kernel
abbrev cJ6_init : ByteArray := prog_24_method_1_code
def yJ6_init : MethodName := ⟨RJ6, "<init>", "()V"⟩
theorem q93 : (Jvm.Cond.initialized "java/lang/NullPointerException") ∈ lw_all := lw_g (lw_at lw_m1 21 rfl) rfl
theorem q226 : (Jvm.Cond.selects "java/lang/NullPointerException" ({ cls := "java/lang/Throwable", name := "fillInStackTrace", desc := "()Ljava/lang/Throwable;" } : Jvm.MethodName) ({ cls := "java/lang/NullPointerException", name := "fillInStackTrace", desc := "()Ljava/lang/Throwable;" } : Jvm.MethodName)) ∈ lw_all := lw_g (lw_at lw_m1 154 rfl) rfl
theorem q227 : (Jvm.Cond.instanceMethod ({ cls := "java/lang/NullPointerException", name := "fillInStackTrace", desc := "()Ljava/lang/Throwable;" } : Jvm.MethodName)) ∈ lw_all := lw_g (lw_at lw_m1 155 rfl) rfl
theorem q228 : (Jvm.Cond.codeSync ({ cls := "java/lang/NullPointerException", name := "fillInStackTrace", desc := "()Ljava/lang/Throwable;" } : Jvm.MethodName) prog_24_method_3_code (1 : Nat) (Option.some (Jvm.ClassFile.FieldType.object "java/lang/Throwable"))) ∈ lw_all := lw_g (lw_at lw_m1 156 rfl) rfl
theorem q229 : (Jvm.Cond.methodLink "java/lang/NullPointerException" (16 : Nat) ({ cls := "java/lang/NullPointerException", name := "getExtendedNPEMessage", desc := "()Ljava/lang/String;" } : Jvm.MethodName)) ∈ lw_all := lw_g (lw_at lw_m1 157 rfl) rfl
theorem q230 : (Jvm.Cond.privateMethod ({ cls := "java/lang/NullPointerException", name := "getExtendedNPEMessage", desc := "()Ljava/lang/String;" } : Jvm.MethodName)) ∈ lw_tbl := lw_at lw_m1 158 rfl
theorem q231 : (Jvm.Cond.instanceMethod ({ cls := "java/lang/NullPointerException", name := "getExtendedNPEMessage", desc := "()Ljava/lang/String;" } : Jvm.MethodName)) ∈ lw_all := lw_g (lw_at lw_m1 159 rfl) rfl
theorem q232 : (Jvm.Cond.instantiable "java/lang/NullPointerException" (8 : Nat)) ∈ lw_all := lw_g (lw_at lw_m1 160 rfl) rfl
theorem q233 : (Jvm.Cond.native ({ cls := "java/lang/NullPointerException", name := "getExtendedNPEMessage", desc := "()Ljava/lang/String;" } : Jvm.MethodName)) ∈ lw_all := lw_g (lw_at lw_m1 161 rfl) rfl
theorem q234 : (Jvm.Cond.methodLink "java/lang/NullPointerException" (24 : Nat) ({ cls := "java/lang/RuntimeException", name := "fillInStackTrace", desc := "()Ljava/lang/Throwable;" } : Jvm.MethodName)) ∈ lw_all := lw_g (lw_at lw_m1 162 rfl) rfl
theorem q237 : (Jvm.Cond.superclass "java/lang/NullPointerException" "java/lang/RuntimeException") ∈ lw_all := lw_g (lw_at lw_m1 165 rfl) rfl
theorem q805 : (Jvm.Cond.instanceMethod ({ cls := "java/lang/NullPointerException", name := "<init>", desc := "()V" } : Jvm.MethodName)) ∈ lw_all := lw_g (lw_at lw_m4 13 rfl) rfl
theorem q806 : (Jvm.Cond.code ({ cls := "java/lang/NullPointerException", name := "<init>", desc := "()V" } : Jvm.MethodName) prog_24_method_1_code (1 : Nat) (Option.none : Option Jvm.ClassFile.FieldType)) ∈ lw_all := lw_g (lw_at lw_m4 14 rfl) rfl
theorem q807 : (Jvm.Cond.methodLink "java/lang/NullPointerException" (1 : Nat) ({ cls := "java/lang/RuntimeException", name := "<init>", desc := "()V" } : Jvm.MethodName)) ∈ lw_all := lw_g (lw_at lw_m4 15 rfl) rfl
theorem q814 : (Jvm.Cond.fieldLink "java/lang/NullPointerException" (10 : Nat) "java/lang/NullPointerException" "extendedMessageState" "I") ∈ lw_all := lw_g (lw_at lw_m4 22 rfl) rfl
theorem q815 : (Jvm.Cond.fieldLink "java/lang/NullPointerException" (20 : Nat) "java/lang/NullPointerException" "extendedMessage" "Ljava/lang/String;") ∈ lw_all := lw_g (lw_at lw_m4 23 rfl) rfl
theorem q816 : (Jvm.Cond.lays "java/lang/NullPointerException" "java/lang/NullPointerException" "extendedMessageState" "I") ∈ lw_all := lw_g (lw_at lw_m4 24 rfl) rfl
theorem q817 : (Jvm.Cond.soleField "java/lang/NullPointerException" "extendedMessageState") ∈ lw_all := lw_g (lw_at lw_m4 25 rfl) rfl
theorem q818 : (Jvm.Cond.lays "java/lang/NullPointerException" "java/lang/NullPointerException" "extendedMessage" "Ljava/lang/String;") ∈ lw_all := lw_g (lw_at lw_m4 26 rfl) rfl
theorem q819 : (Jvm.Cond.soleField "java/lang/NullPointerException" "extendedMessage") ∈ lw_all := lw_g (lw_at lw_m4 27 rfl) rfl
theorem q820 : (Jvm.Cond.lays "java/lang/NullPointerException" "java/lang/Throwable" "backtrace" "Ljava/lang/Object;") ∈ lw_all := lw_g (lw_at lw_m4 28 rfl) rfl
theorem q821 : (Jvm.Cond.lays "java/lang/NullPointerException" "java/lang/Throwable" "detailMessage" "Ljava/lang/String;") ∈ lw_all := lw_g (lw_at lw_m4 29 rfl) rfl
theorem q822 : (Jvm.Cond.lays "java/lang/NullPointerException" "java/lang/Throwable" "cause" "Ljava/lang/Throwable;") ∈ lw_all := lw_g (lw_at lw_m4 30 rfl) rfl
theorem q823 : (Jvm.Cond.lays "java/lang/NullPointerException" "java/lang/Throwable" "stackTrace" "[Ljava/lang/StackTraceElement;") ∈ lw_all := lw_g (lw_at lw_m4 31 rfl) rfl
theorem q824 : (Jvm.Cond.lays "java/lang/NullPointerException" "java/lang/Throwable" "depth" "I") ∈ lw_all := lw_g (lw_at lw_m4 32 rfl) rfl
theorem q825 : (Jvm.Cond.lays "java/lang/NullPointerException" "java/lang/Throwable" "suppressedExceptions" "Ljava/util/List;") ∈ lw_all := lw_g (lw_at lw_m4 33 rfl) rfl
theorem q826 : (Jvm.Cond.castable "java/lang/NullPointerException" "java/lang/NullPointerException") ∈ lw_tbl := lw_at lw_m4 34 rfl
theorem q827 : (Jvm.Cond.selects "java/lang/NullPointerException" ({ cls := "java/lang/Throwable", name := "fillInStackTrace", desc := "(I)Ljava/lang/Throwable;" } : Jvm.MethodName) ({ cls := "java/lang/Throwable", name := "fillInStackTrace", desc := "(I)Ljava/lang/Throwable;" } : Jvm.MethodName)) ∈ lw_all := lw_g (lw_at lw_m4 35 rfl) rfl
theorem in_J6 : ∀ w ∈ wsJ60, w ∈ lw_all := lw_in wsJ60 [820, 821, 822, 823, 824, 825, 816, 818] (by decide +kernel) (by decide +kernel)

/-! java/lang/IndexOutOfBoundsException -/
def RJ7 : String := "java/lang/IndexOutOfBoundsException"
abbrev cJ7_init : ByteArray := prog_20_method_2_code
def yJ7_init : MethodName := ⟨RJ7, "<init>", "(Ljava/lang/String;)V"⟩
theorem q94 : (Jvm.Cond.initialized "java/lang/IndexOutOfBoundsException") ∈ lw_all := lw_g (lw_at lw_m1 22 rfl) rfl
theorem q834 : (Jvm.Cond.instanceMethod ({ cls := "java/lang/IndexOutOfBoundsException", name := "<init>", desc := "(Ljava/lang/String;)V" } : Jvm.MethodName)) ∈ lw_all := lw_g (lw_at lw_m4 42 rfl) rfl
theorem q835 : (Jvm.Cond.code ({ cls := "java/lang/IndexOutOfBoundsException", name := "<init>", desc := "(Ljava/lang/String;)V" } : Jvm.MethodName) prog_20_method_2_code (2 : Nat) (Option.none : Option Jvm.ClassFile.FieldType)) ∈ lw_all := lw_g (lw_at lw_m4 43 rfl) rfl
theorem q836 : (Jvm.Cond.methodLink "java/lang/IndexOutOfBoundsException" (7 : Nat) ({ cls := "java/lang/RuntimeException", name := "<init>", desc := "(Ljava/lang/String;)V" } : Jvm.MethodName)) ∈ lw_all := lw_g (lw_at lw_m4 44 rfl) rfl
theorem q845 : (Jvm.Cond.declares ({ cls := "java/lang/IndexOutOfBoundsException", name := "<init>", desc := "()V" } : Jvm.MethodName)) ∈ lw_tbl := lw_at lw_m4 53 rfl
theorem q846 : (Jvm.Cond.declares ({ cls := "java/lang/IndexOutOfBoundsException", name := "<init>", desc := "(Ljava/lang/String;)V" } : Jvm.MethodName)) ∈ lw_tbl := lw_at lw_m4 54 rfl

/-! java/lang/ArrayIndexOutOfBoundsException -/
def RJ8 : String := "java/lang/ArrayIndexOutOfBoundsException"
def TJ8 : u_T := fun k => match k with
  | 0 => ("java/lang/Throwable", "backtrace", "Ljava/lang/Object;", false)
  | 1 => ("java/lang/Throwable", "detailMessage", "Ljava/lang/String;", false)
  | 2 => ("java/lang/Throwable", "cause", "Ljava/lang/Throwable;", false)
  | 3 => ("java/lang/Throwable", "stackTrace", "[Ljava/lang/StackTraceElement;", false)
  | 4 => ("java/lang/Throwable", "depth", "I", false)
  | _ => ("java/lang/Throwable", "suppressedExceptions", "Ljava/util/List;", false)
def tyJ8 : Nat → FieldType := fun k => match k with
  | 0 => .object "java/lang/Object"
  | 1 => .object "java/lang/String"
  | 2 => .object "java/lang/Throwable"
  | 3 => .array (.object "java/lang/StackTraceElement")
  | 4 => .int
  | _ => .object "java/util/List"
abbrev wsJ80 : List Cond := u_ws RJ8 TJ8 6
theorem nmJ8 : ∀ a, a < 6 → ∀ b, b < 6 → a ≠ b → (TJ8 a).2.1 ≠ (TJ8 b).2.1 := by decide +kernel
theorem tyJ8_ok : ∀ k, k < 6 → parseFieldDescriptor (TJ8 k).2.2.1 = some (tyJ8 k) := by decide +kernel
abbrev cJ8_init : ByteArray := prog_17_method_2_code
def yJ8_init : MethodName := ⟨RJ8, "<init>", "(Ljava/lang/String;)V"⟩
theorem q95 : (Jvm.Cond.initialized "java/lang/ArrayIndexOutOfBoundsException") ∈ lw_all := lw_g (lw_at lw_m1 23 rfl) rfl
theorem q223 : (Jvm.Cond.selects "java/lang/ArrayIndexOutOfBoundsException" ({ cls := "java/lang/Throwable", name := "fillInStackTrace", desc := "()Ljava/lang/Throwable;" } : Jvm.MethodName) ({ cls := "java/lang/Throwable", name := "fillInStackTrace", desc := "()Ljava/lang/Throwable;" } : Jvm.MethodName)) ∈ lw_all := lw_g (lw_at lw_m1 151 rfl) rfl
theorem q830 : (Jvm.Cond.instantiable "java/lang/ArrayIndexOutOfBoundsException" (6 : Nat)) ∈ lw_all := lw_g (lw_at lw_m4 38 rfl) rfl
theorem q831 : (Jvm.Cond.instanceMethod ({ cls := "java/lang/ArrayIndexOutOfBoundsException", name := "<init>", desc := "(Ljava/lang/String;)V" } : Jvm.MethodName)) ∈ lw_all := lw_g (lw_at lw_m4 39 rfl) rfl
theorem q832 : (Jvm.Cond.code ({ cls := "java/lang/ArrayIndexOutOfBoundsException", name := "<init>", desc := "(Ljava/lang/String;)V" } : Jvm.MethodName) prog_17_method_2_code (2 : Nat) (Option.none : Option Jvm.ClassFile.FieldType)) ∈ lw_all := lw_g (lw_at lw_m4 40 rfl) rfl
theorem q833 : (Jvm.Cond.methodLink "java/lang/ArrayIndexOutOfBoundsException" (7 : Nat) ({ cls := "java/lang/IndexOutOfBoundsException", name := "<init>", desc := "(Ljava/lang/String;)V" } : Jvm.MethodName)) ∈ lw_all := lw_g (lw_at lw_m4 41 rfl) rfl
theorem q837 : (Jvm.Cond.lays "java/lang/ArrayIndexOutOfBoundsException" "java/lang/Throwable" "backtrace" "Ljava/lang/Object;") ∈ lw_all := lw_g (lw_at lw_m4 45 rfl) rfl
theorem q838 : (Jvm.Cond.lays "java/lang/ArrayIndexOutOfBoundsException" "java/lang/Throwable" "detailMessage" "Ljava/lang/String;") ∈ lw_all := lw_g (lw_at lw_m4 46 rfl) rfl
theorem q839 : (Jvm.Cond.lays "java/lang/ArrayIndexOutOfBoundsException" "java/lang/Throwable" "cause" "Ljava/lang/Throwable;") ∈ lw_all := lw_g (lw_at lw_m4 47 rfl) rfl
theorem q840 : (Jvm.Cond.lays "java/lang/ArrayIndexOutOfBoundsException" "java/lang/Throwable" "stackTrace" "[Ljava/lang/StackTraceElement;") ∈ lw_all := lw_g (lw_at lw_m4 48 rfl) rfl
theorem q841 : (Jvm.Cond.lays "java/lang/ArrayIndexOutOfBoundsException" "java/lang/Throwable" "depth" "I") ∈ lw_all := lw_g (lw_at lw_m4 49 rfl) rfl
theorem q842 : (Jvm.Cond.lays "java/lang/ArrayIndexOutOfBoundsException" "java/lang/Throwable" "suppressedExceptions" "Ljava/util/List;") ∈ lw_all := lw_g (lw_at lw_m4 50 rfl) rfl
theorem q843 : (Jvm.Cond.superclass "java/lang/ArrayIndexOutOfBoundsException" "java/lang/IndexOutOfBoundsException") ∈ lw_all := lw_g (lw_at lw_m4 51 rfl) rfl
theorem q844 : (Jvm.Cond.castable "java/lang/ArrayIndexOutOfBoundsException" "java/lang/ArrayIndexOutOfBoundsException") ∈ lw_tbl := lw_at lw_m4 52 rfl
theorem q847 : (Jvm.Cond.selects "java/lang/ArrayIndexOutOfBoundsException" ({ cls := "java/lang/Throwable", name := "fillInStackTrace", desc := "(I)Ljava/lang/Throwable;" } : Jvm.MethodName) ({ cls := "java/lang/Throwable", name := "fillInStackTrace", desc := "(I)Ljava/lang/Throwable;" } : Jvm.MethodName)) ∈ lw_all := lw_g (lw_at lw_m4 55 rfl) rfl
theorem q1582 : (Jvm.Cond.castable "java/lang/ArrayIndexOutOfBoundsException" "java/lang/IndexOutOfBoundsException") ∈ lw_tbl := lw_at lw_m7 70 rfl
theorem in_J8 : ∀ w ∈ wsJ80, w ∈ lw_all := lw_in wsJ80 [837, 838, 839, 840, 841, 842] (by decide +kernel) (by decide +kernel)

/-! java/lang/Integer -/
def RJ9 : String := "java/lang/Integer"
abbrev cJ9_bitCount : ByteArray := prog_21_method_49_code
def yJ9_bitCount : MethodName := ⟨RJ9, "bitCount", "(I)I"⟩
theorem q97 : (Jvm.Cond.initialized "java/lang/Integer") ∈ lw_all := lw_g (lw_at lw_m1 25 rfl) rfl
theorem q894 : (Jvm.Cond.static ({ cls := "java/lang/Integer", name := "bitCount", desc := "(I)I" } : Jvm.MethodName)) ∈ lw_all := lw_g (lw_at lw_m4 102 rfl) rfl
theorem q895 : (Jvm.Cond.code ({ cls := "java/lang/Integer", name := "bitCount", desc := "(I)I" } : Jvm.MethodName) prog_21_method_49_code (1 : Nat) (Option.some Jvm.ClassFile.FieldType.int)) ∈ lw_all := lw_g (lw_at lw_m4 103 rfl) rfl
theorem q896 : (Jvm.Cond.constant "java/lang/Integer" (265 : Nat) (1431655765 : Int32)) ∈ lw_all := lw_g (lw_at lw_m4 104 rfl) rfl
theorem q897 : (Jvm.Cond.constant "java/lang/Integer" (266 : Nat) (858993459 : Int32)) ∈ lw_all := lw_g (lw_at lw_m4 105 rfl) rfl
theorem q898 : (Jvm.Cond.constant "java/lang/Integer" (267 : Nat) (252645135 : Int32)) ∈ lw_all := lw_g (lw_at lw_m4 106 rfl) rfl

/-! java/lang/Math -/
def RJ10 : String := "java/lang/Math"
abbrev cJ10_floorDiv : ByteArray := prog_22_method_47_code
def yJ10_floorDiv : MethodName := ⟨RJ10, "floorDiv", "(II)I"⟩
abbrev cJ10_max : ByteArray := prog_22_method_65_code
def yJ10_max : MethodName := ⟨RJ10, "max", "(II)I"⟩
abbrev cJ10_min : ByteArray := prog_22_method_69_code
def yJ10_min : MethodName := ⟨RJ10, "min", "(II)I"⟩
theorem q98 : (Jvm.Cond.initialized "java/lang/Math") ∈ lw_all := lw_g (lw_at lw_m1 26 rfl) rfl
theorem q908 : (Jvm.Cond.static ({ cls := "java/lang/Math", name := "floorDiv", desc := "(II)I" } : Jvm.MethodName)) ∈ lw_all := lw_g (lw_at lw_m4 116 rfl) rfl
theorem q909 : (Jvm.Cond.code ({ cls := "java/lang/Math", name := "floorDiv", desc := "(II)I" } : Jvm.MethodName) prog_22_method_47_code (3 : Nat) (Option.some Jvm.ClassFile.FieldType.int)) ∈ lw_all := lw_g (lw_at lw_m4 117 rfl) rfl
theorem q911 : (Jvm.Cond.static ({ cls := "java/lang/Math", name := "max", desc := "(II)I" } : Jvm.MethodName)) ∈ lw_all := lw_g (lw_at lw_m4 119 rfl) rfl
theorem q912 : (Jvm.Cond.code ({ cls := "java/lang/Math", name := "max", desc := "(II)I" } : Jvm.MethodName) prog_22_method_65_code (2 : Nat) (Option.some Jvm.ClassFile.FieldType.int)) ∈ lw_all := lw_g (lw_at lw_m4 120 rfl) rfl
theorem q970 : (Jvm.Cond.static ({ cls := "java/lang/Math", name := "min", desc := "(II)I" } : Jvm.MethodName)) ∈ lw_all := lw_g (lw_at lw_m4 178 rfl) rfl
theorem q971 : (Jvm.Cond.code ({ cls := "java/lang/Math", name := "min", desc := "(II)I" } : Jvm.MethodName) prog_22_method_69_code (2 : Nat) (Option.some Jvm.ClassFile.FieldType.int)) ∈ lw_all := lw_g (lw_at lw_m4 179 rfl) rfl

/-! java/lang/ArithmeticException -/
def RJ11 : String := "java/lang/ArithmeticException"
def TJ11 : u_T := fun k => match k with
  | 0 => ("java/lang/Throwable", "backtrace", "Ljava/lang/Object;", false)
  | 1 => ("java/lang/Throwable", "detailMessage", "Ljava/lang/String;", false)
  | 2 => ("java/lang/Throwable", "cause", "Ljava/lang/Throwable;", false)
  | 3 => ("java/lang/Throwable", "stackTrace", "[Ljava/lang/StackTraceElement;", false)
  | 4 => ("java/lang/Throwable", "depth", "I", false)
  | _ => ("java/lang/Throwable", "suppressedExceptions", "Ljava/util/List;", false)
def tyJ11 : Nat → FieldType := fun k => match k with
  | 0 => .object "java/lang/Object"
  | 1 => .object "java/lang/String"
  | 2 => .object "java/lang/Throwable"
  | 3 => .array (.object "java/lang/StackTraceElement")
  | 4 => .int
  | _ => .object "java/util/List"
abbrev wsJ110 : List Cond := u_ws RJ11 TJ11 6
theorem nmJ11 : ∀ a, a < 6 → ∀ b, b < 6 → a ≠ b → (TJ11 a).2.1 ≠ (TJ11 b).2.1 := by decide +kernel
theorem tyJ11_ok : ∀ k, k < 6 → parseFieldDescriptor (TJ11 k).2.2.1 = some (tyJ11 k) := by decide +kernel
abbrev cJ11_init : ByteArray := prog_16_method_2_code
def yJ11_init : MethodName := ⟨RJ11, "<init>", "(Ljava/lang/String;)V"⟩
theorem q99 : (Jvm.Cond.initialized "java/lang/ArithmeticException") ∈ lw_all := lw_g (lw_at lw_m1 27 rfl) rfl
theorem q222 : (Jvm.Cond.selects "java/lang/ArithmeticException" ({ cls := "java/lang/Throwable", name := "fillInStackTrace", desc := "()Ljava/lang/Throwable;" } : Jvm.MethodName) ({ cls := "java/lang/Throwable", name := "fillInStackTrace", desc := "()Ljava/lang/Throwable;" } : Jvm.MethodName)) ∈ lw_all := lw_g (lw_at lw_m1 150 rfl) rfl
theorem q1033 : (Jvm.Cond.instantiable "java/lang/ArithmeticException" (6 : Nat)) ∈ lw_all := lw_g (lw_at lw_m5 1 rfl) rfl
theorem q1034 : (Jvm.Cond.instanceMethod ({ cls := "java/lang/ArithmeticException", name := "<init>", desc := "(Ljava/lang/String;)V" } : Jvm.MethodName)) ∈ lw_all := lw_g (lw_at lw_m5 2 rfl) rfl
theorem q1035 : (Jvm.Cond.code ({ cls := "java/lang/ArithmeticException", name := "<init>", desc := "(Ljava/lang/String;)V" } : Jvm.MethodName) prog_16_method_2_code (2 : Nat) (Option.none : Option Jvm.ClassFile.FieldType)) ∈ lw_all := lw_g (lw_at lw_m5 3 rfl) rfl
theorem q1036 : (Jvm.Cond.methodLink "java/lang/ArithmeticException" (7 : Nat) ({ cls := "java/lang/RuntimeException", name := "<init>", desc := "(Ljava/lang/String;)V" } : Jvm.MethodName)) ∈ lw_all := lw_g (lw_at lw_m5 4 rfl) rfl
theorem q1037 : (Jvm.Cond.lays "java/lang/ArithmeticException" "java/lang/Throwable" "backtrace" "Ljava/lang/Object;") ∈ lw_all := lw_g (lw_at lw_m5 5 rfl) rfl
theorem q1038 : (Jvm.Cond.lays "java/lang/ArithmeticException" "java/lang/Throwable" "detailMessage" "Ljava/lang/String;") ∈ lw_all := lw_g (lw_at lw_m5 6 rfl) rfl
theorem q1039 : (Jvm.Cond.lays "java/lang/ArithmeticException" "java/lang/Throwable" "cause" "Ljava/lang/Throwable;") ∈ lw_all := lw_g (lw_at lw_m5 7 rfl) rfl
theorem q1040 : (Jvm.Cond.lays "java/lang/ArithmeticException" "java/lang/Throwable" "stackTrace" "[Ljava/lang/StackTraceElement;") ∈ lw_all := lw_g (lw_at lw_m5 8 rfl) rfl
theorem q1041 : (Jvm.Cond.lays "java/lang/ArithmeticException" "java/lang/Throwable" "depth" "I") ∈ lw_all := lw_g (lw_at lw_m5 9 rfl) rfl
theorem q1042 : (Jvm.Cond.lays "java/lang/ArithmeticException" "java/lang/Throwable" "suppressedExceptions" "Ljava/util/List;") ∈ lw_all := lw_g (lw_at lw_m5 10 rfl) rfl
theorem q1043 : (Jvm.Cond.superclass "java/lang/ArithmeticException" "java/lang/RuntimeException") ∈ lw_all := lw_g (lw_at lw_m5 11 rfl) rfl
theorem q1044 : (Jvm.Cond.castable "java/lang/ArithmeticException" "java/lang/ArithmeticException") ∈ lw_tbl := lw_at lw_m5 12 rfl
theorem q1045 : (Jvm.Cond.selects "java/lang/ArithmeticException" ({ cls := "java/lang/Throwable", name := "fillInStackTrace", desc := "(I)Ljava/lang/Throwable;" } : Jvm.MethodName) ({ cls := "java/lang/Throwable", name := "fillInStackTrace", desc := "(I)Ljava/lang/Throwable;" } : Jvm.MethodName)) ∈ lw_all := lw_g (lw_at lw_m5 13 rfl) rfl
theorem in_J11 : ∀ w ∈ wsJ110, w ∈ lw_all := lw_in wsJ110 [1037, 1038, 1039, 1040, 1041, 1042] (by decide +kernel) (by decide +kernel)

/-! java/lang/Object -/
def RJ12 : String := "java/lang/Object"
abbrev cJ12_init : ByteArray := object_method_1_code
def yJ12_init : MethodName := ⟨RJ12, "<init>", "()V"⟩
theorem q106 : (Jvm.Cond.instanceMethod ({ cls := "java/lang/Object", name := "<init>", desc := "()V" } : Jvm.MethodName)) ∈ lw_all := lw_g (lw_at lw_m1 34 rfl) rfl
theorem q107 : (Jvm.Cond.code ({ cls := "java/lang/Object", name := "<init>", desc := "()V" } : Jvm.MethodName) object_method_1_code (1 : Nat) (Option.none : Option Jvm.ClassFile.FieldType)) ∈ lw_all := lw_g (lw_at lw_m1 35 rfl) rfl

/-! the law's own entry -/
abbrev cL_law : ByteArray := code

theorem q109 : (Jvm.Cond.arrayOver (Jvm.ClassFile.FieldType.object "LoopLane$Refusal")) ∈ lw_tbl := lw_at lw_m1 37 rfl
theorem q117 : (Jvm.Cond.arrayOver (Jvm.ClassFile.FieldType.object "LoopLane$Slot")) ∈ lw_tbl := lw_at lw_m1 45 rfl
theorem q128 : (Jvm.Cond.arrayClass Jvm.ClassFile.FieldType.int) ∈ lw_all := lw_g (lw_at lw_m1 56 rfl) rfl
theorem q135 : (Jvm.Cond.arrayOver (Jvm.ClassFile.FieldType.object "LoopLane$Act")) ∈ lw_tbl := lw_at lw_m1 63 rfl
theorem q137 : (Jvm.Cond.arrayOver (Jvm.ClassFile.FieldType.object "LoopLane$Put")) ∈ lw_tbl := lw_at lw_m1 65 rfl
theorem q139 : (Jvm.Cond.arrayOver (Jvm.ClassFile.FieldType.object "LoopLane$Sum")) ∈ lw_tbl := lw_at lw_m1 67 rfl
theorem q141 : (Jvm.Cond.arrayOver (Jvm.ClassFile.FieldType.object "LoopLane$Times")) ∈ lw_tbl := lw_at lw_m1 69 rfl
theorem q143 : (Jvm.Cond.arrayOver (Jvm.ClassFile.FieldType.object "LoopLane$Over")) ∈ lw_tbl := lw_at lw_m1 71 rfl
theorem q145 : (Jvm.Cond.arrayOver (Jvm.ClassFile.FieldType.object "LoopLane$Fetch")) ∈ lw_tbl := lw_at lw_m1 73 rfl
theorem q147 : (Jvm.Cond.arrayOver (Jvm.ClassFile.FieldType.object "LoopLane$Store")) ∈ lw_tbl := lw_at lw_m1 75 rfl
theorem q149 : (Jvm.Cond.arrayOver (Jvm.ClassFile.FieldType.object "LoopLane$Pick")) ∈ lw_tbl := lw_at lw_m1 77 rfl
theorem q189 : (Jvm.Cond.arrayClass Jvm.ClassFile.FieldType.long) ∈ lw_all := lw_g (lw_at lw_m1 117 rfl) rfl
theorem q761 : (Jvm.Cond.arrayClass Jvm.ClassFile.FieldType.byte) ∈ lw_all := lw_g (lw_at lw_m3 209 rfl) rfl
theorem q1275 : (Jvm.Cond.arrayClass Jvm.ClassFile.FieldType.boolean) ∈ lw_all := lw_g (lw_at lw_m6 3 rfl) rfl

theorem q72 : (Jvm.Cond.initialized "LoopLaneLaw") ∈ lw_all := lw_g (lw_at lw_m1 0 rfl) rfl
theorem q100 : (Jvm.Cond.classLink "LoopLaneLaw" (7 : Nat) "LoopLane") ∈ lw_all := lw_g (lw_at lw_m1 28 rfl) rfl
theorem q102 : (Jvm.Cond.methodLink "LoopLaneLaw" (9 : Nat) ({ cls := "LoopLane", name := "<init>", desc := "()V" } : Jvm.MethodName)) ∈ lw_all := lw_g (lw_at lw_m1 30 rfl) rfl
theorem q545 : (Jvm.Cond.methodLink "LoopLaneLaw" (15 : Nat) ({ cls := "LoopLane", name := "put", desc := "(J)I" } : Jvm.MethodName)) ∈ lw_all := lw_g (lw_at lw_m2 233 rfl) rfl
theorem q637 : (Jvm.Cond.methodLink "LoopLaneLaw" (20 : Nat) ({ cls := "LoopLane", name := "reckon", desc := "(IIIII)I" } : Jvm.MethodName)) ∈ lw_all := lw_g (lw_at lw_m3 85 rfl) rfl
theorem q675 : (Jvm.Cond.methodLink "LoopLaneLaw" (25 : Nat) ({ cls := "LoopLane", name := "fetch", desc := "(III)I" } : Jvm.MethodName)) ∈ lw_all := lw_g (lw_at lw_m3 123 rfl) rfl
theorem q689 : (Jvm.Cond.methodLink "LoopLaneLaw" (30 : Nat) ({ cls := "LoopLane", name := "store", desc := "(IIIII)I" } : Jvm.MethodName)) ∈ lw_all := lw_g (lw_at lw_m3 137 rfl) rfl
theorem q693 : (Jvm.Cond.methodLink "LoopLaneLaw" (34 : Nat) ({ cls := "LoopLane", name := "pick", desc := "(IIII)I" } : Jvm.MethodName)) ∈ lw_all := lw_g (lw_at lw_m3 141 rfl) rfl
theorem q697 : (Jvm.Cond.methodLink "LoopLaneLaw" (39 : Nat) ({ cls := "LoopLane", name := "works", desc := "(IIII)I" } : Jvm.MethodName)) ∈ lw_all := lw_g (lw_at lw_m3 145 rfl) rfl
theorem q708 : (Jvm.Cond.methodLink "LoopLaneLaw" (43 : Nat) ({ cls := "LoopLane", name := "first", desc := "(IJ)I" } : Jvm.MethodName)) ∈ lw_all := lw_g (lw_at lw_m3 156 rfl) rfl
theorem q712 : (Jvm.Cond.methodLink "LoopLaneLaw" (48 : Nat) ({ cls := "LoopLane", name := "unit", desc := "(II)I" } : Jvm.MethodName)) ∈ lw_all := lw_g (lw_at lw_m3 160 rfl) rfl
theorem q716 : (Jvm.Cond.methodLink "LoopLaneLaw" (53 : Nat) ({ cls := "LoopLane", name := "edge", desc := "(IIII)I" } : Jvm.MethodName)) ∈ lw_all := lw_g (lw_at lw_m3 164 rfl) rfl
theorem q722 : (Jvm.Cond.methodLink "LoopLaneLaw" (57 : Nat) ({ cls := "LoopLane", name := "undo", desc := "()I" } : Jvm.MethodName)) ∈ lw_all := lw_g (lw_at lw_m3 170 rfl) rfl
theorem q730 : (Jvm.Cond.methodLink "LoopLaneLaw" (62 : Nat) ({ cls := "LoopLane", name := "act", desc := "(II)I" } : Jvm.MethodName)) ∈ lw_all := lw_g (lw_at lw_m3 178 rfl) rfl
theorem q734 : (Jvm.Cond.methodLink "LoopLaneLaw" (66 : Nat) ({ cls := "LoopLane", name := "number", desc := "(I)J" } : Jvm.MethodName)) ∈ lw_all := lw_g (lw_at lw_m3 182 rfl) rfl
theorem q766 : (Jvm.Cond.methodLink "LoopLaneLaw" (71 : Nat) ({ cls := "LoopLane", name := "count", desc := "(I)I" } : Jvm.MethodName)) ∈ lw_all := lw_g (lw_at lw_m3 214 rfl) rfl
theorem q770 : (Jvm.Cond.methodLink "LoopLaneLaw" (76 : Nat) ({ cls := "LoopLane", name := "whole", desc := "()I" } : Jvm.MethodName)) ∈ lw_all := lw_g (lw_at lw_m3 218 rfl) rfl
theorem q778 : (Jvm.Cond.methodLink "LoopLaneLaw" (80 : Nat) ({ cls := "LoopLane", name := "row", desc := "(IIZ)I" } : Jvm.MethodName)) ∈ lw_all := lw_g (lw_at lw_m3 226 rfl) rfl
theorem q796 : (Jvm.Cond.methodLink "LoopLaneLaw" (85 : Nat) ({ cls := "LoopLane", name := "empty", desc := "(I)I" } : Jvm.MethodName)) ∈ lw_all := lw_g (lw_at lw_m4 4 rfl) rfl
theorem q800 : (Jvm.Cond.methodLink "LoopLaneLaw" (89 : Nat) ({ cls := "LoopLane", name := "set", desc := "(IIJ)I" } : Jvm.MethodName)) ∈ lw_all := lw_g (lw_at lw_m4 8 rfl) rfl
theorem q853 : (Jvm.Cond.methodLink "LoopLaneLaw" (94 : Nat) ({ cls := "LoopLane", name := "get", desc := "(II)J" } : Jvm.MethodName)) ∈ lw_all := lw_g (lw_at lw_m4 61 rfl) rfl
theorem q857 : (Jvm.Cond.methodLink "LoopLaneLaw" (99 : Nat) ({ cls := "LoopLane", name := "copy", desc := "(IIIII)I" } : Jvm.MethodName)) ∈ lw_all := lw_g (lw_at lw_m4 65 rfl) rfl
theorem q870 : (Jvm.Cond.methodLink "LoopLaneLaw" (103 : Nat) ({ cls := "LoopLane", name := "lowest", desc := "()I" } : Jvm.MethodName)) ∈ lw_all := lw_g (lw_at lw_m4 78 rfl) rfl
theorem q913 : (Jvm.Cond.methodLink "LoopLaneLaw" (107 : Nat) ({ cls := "LoopLane", name := "lay", desc := "()I" } : Jvm.MethodName)) ∈ lw_all := lw_g (lw_at lw_m4 121 rfl) rfl
theorem q941 : (Jvm.Cond.methodLink "LoopLaneLaw" (111 : Nat) ({ cls := "LoopLane", name := "prove", desc := "(I)I" } : Jvm.MethodName)) ∈ lw_all := lw_g (lw_at lw_m4 149 rfl) rfl
theorem q945 : (Jvm.Cond.methodLink "LoopLaneLaw" (115 : Nat) ({ cls := "LoopLane", name := "trials", desc := "()I" } : Jvm.MethodName)) ∈ lw_all := lw_g (lw_at lw_m4 153 rfl) rfl
theorem q949 : (Jvm.Cond.methodLink "LoopLaneLaw" (119 : Nat) ({ cls := "LoopLane", name := "laying", desc := "(I)I" } : Jvm.MethodName)) ∈ lw_all := lw_g (lw_at lw_m4 157 rfl) rfl
theorem q957 : (Jvm.Cond.methodLink "LoopLaneLaw" (123 : Nat) ({ cls := "LoopLane", name := "tick", desc := "(II)I" } : Jvm.MethodName)) ∈ lw_all := lw_g (lw_at lw_m4 165 rfl) rfl
theorem q972 : (Jvm.Cond.methodLink "LoopLaneLaw" (127 : Nat) ({ cls := "LoopLane", name := "filled", desc := "(II)I" } : Jvm.MethodName)) ∈ lw_all := lw_g (lw_at lw_m4 180 rfl) rfl
theorem q980 : (Jvm.Cond.methodLink "LoopLaneLaw" (131 : Nat) ({ cls := "LoopLane", name := "names", desc := "(I)I" } : Jvm.MethodName)) ∈ lw_all := lw_g (lw_at lw_m4 188 rfl) rfl
theorem q988 : (Jvm.Cond.methodLink "LoopLaneLaw" (135 : Nat) ({ cls := "LoopLane", name := "fewest", desc := "(I)I" } : Jvm.MethodName)) ∈ lw_all := lw_g (lw_at lw_m4 196 rfl) rfl
theorem q992 : (Jvm.Cond.methodLink "LoopLaneLaw" (139 : Nat) ({ cls := "LoopLane", name := "forge", desc := "(II)I" } : Jvm.MethodName)) ∈ lw_all := lw_g (lw_at lw_m4 200 rfl) rfl
theorem q996 : (Jvm.Cond.methodLink "LoopLaneLaw" (143 : Nat) ({ cls := "LoopLane", name := "check", desc := "()I" } : Jvm.MethodName)) ∈ lw_all := lw_g (lw_at lw_m4 204 rfl) rfl
theorem q1004 : (Jvm.Cond.methodLink "LoopLaneLaw" (147 : Nat) ({ cls := "LoopLane", name := "wrong", desc := "(I)I" } : Jvm.MethodName)) ∈ lw_all := lw_g (lw_at lw_m4 212 rfl) rfl
theorem q1008 : (Jvm.Cond.methodLink "LoopLaneLaw" (151 : Nat) ({ cls := "LoopLane", name := "run", desc := "(IZ)I" } : Jvm.MethodName)) ∈ lw_all := lw_g (lw_at lw_m4 216 rfl) rfl
theorem q1091 : (Jvm.Cond.methodLink "LoopLaneLaw" (156 : Nat) ({ cls := "LoopLane", name := "compare", desc := "(I)I" } : Jvm.MethodName)) ∈ lw_all := lw_g (lw_at lw_m5 59 rfl) rfl
theorem q1107 : (Jvm.Cond.methodLink "LoopLaneLaw" (160 : Nat) ({ cls := "LoopLane", name := "told", desc := "(I)I" } : Jvm.MethodName)) ∈ lw_all := lw_g (lw_at lw_m5 75 rfl) rfl
theorem q1111 : (Jvm.Cond.methodLink "LoopLaneLaw" (164 : Nat) ({ cls := "LoopLane", name := "end", desc := "(I)J" } : Jvm.MethodName)) ∈ lw_all := lw_g (lw_at lw_m5 79 rfl) rfl
theorem q1115 : (Jvm.Cond.methodLink "LoopLaneLaw" (168 : Nat) ({ cls := "LoopLane", name := "again", desc := "()I" } : Jvm.MethodName)) ∈ lw_all := lw_g (lw_at lw_m5 83 rfl) rfl
theorem q1119 : (Jvm.Cond.methodLink "LoopLaneLaw" (172 : Nat) ({ cls := "LoopLane", name := "status", desc := "(I)I" } : Jvm.MethodName)) ∈ lw_all := lw_g (lw_at lw_m5 87 rfl) rfl
theorem q1125 : (Jvm.Cond.classLink "LoopLaneLaw" (10 : Nat) "LoopLaneModel") ∈ lw_all := lw_g (lw_at lw_m5 93 rfl) rfl
theorem q1127 : (Jvm.Cond.methodLink "LoopLaneLaw" (12 : Nat) ({ cls := "LoopLaneModel", name := "<init>", desc := "()V" } : Jvm.MethodName)) ∈ lw_all := lw_g (lw_at lw_m5 95 rfl) rfl
theorem q1276 : (Jvm.Cond.methodLink "LoopLaneLaw" (19 : Nat) ({ cls := "LoopLaneModel", name := "put", desc := "(J)I" } : Jvm.MethodName)) ∈ lw_all := lw_g (lw_at lw_m6 4 rfl) rfl
theorem q1296 : (Jvm.Cond.methodLink "LoopLaneLaw" (24 : Nat) ({ cls := "LoopLaneModel", name := "reckon", desc := "(IIIII)I" } : Jvm.MethodName)) ∈ lw_all := lw_g (lw_at lw_m6 24 rfl) rfl
theorem q1313 : (Jvm.Cond.methodLink "LoopLaneLaw" (29 : Nat) ({ cls := "LoopLaneModel", name := "fetch", desc := "(III)I" } : Jvm.MethodName)) ∈ lw_all := lw_g (lw_at lw_m6 41 rfl) rfl
theorem q1318 : (Jvm.Cond.methodLink "LoopLaneLaw" (33 : Nat) ({ cls := "LoopLaneModel", name := "store", desc := "(IIIII)I" } : Jvm.MethodName)) ∈ lw_all := lw_g (lw_at lw_m6 46 rfl) rfl
theorem q1322 : (Jvm.Cond.methodLink "LoopLaneLaw" (38 : Nat) ({ cls := "LoopLaneModel", name := "pick", desc := "(IIII)I" } : Jvm.MethodName)) ∈ lw_all := lw_g (lw_at lw_m6 50 rfl) rfl
theorem q1326 : (Jvm.Cond.methodLink "LoopLaneLaw" (42 : Nat) ({ cls := "LoopLaneModel", name := "works", desc := "(IIII)I" } : Jvm.MethodName)) ∈ lw_all := lw_g (lw_at lw_m6 54 rfl) rfl
theorem q1337 : (Jvm.Cond.methodLink "LoopLaneLaw" (47 : Nat) ({ cls := "LoopLaneModel", name := "first", desc := "(IJ)I" } : Jvm.MethodName)) ∈ lw_all := lw_g (lw_at lw_m6 65 rfl) rfl
theorem q1341 : (Jvm.Cond.methodLink "LoopLaneLaw" (52 : Nat) ({ cls := "LoopLaneModel", name := "unit", desc := "(II)I" } : Jvm.MethodName)) ∈ lw_all := lw_g (lw_at lw_m6 69 rfl) rfl
theorem q1345 : (Jvm.Cond.methodLink "LoopLaneLaw" (56 : Nat) ({ cls := "LoopLaneModel", name := "edge", desc := "(IIII)I" } : Jvm.MethodName)) ∈ lw_all := lw_g (lw_at lw_m6 73 rfl) rfl
theorem q1351 : (Jvm.Cond.methodLink "LoopLaneLaw" (61 : Nat) ({ cls := "LoopLaneModel", name := "undo", desc := "()I" } : Jvm.MethodName)) ∈ lw_all := lw_g (lw_at lw_m6 79 rfl) rfl
theorem q1355 : (Jvm.Cond.methodLink "LoopLaneLaw" (65 : Nat) ({ cls := "LoopLaneModel", name := "act", desc := "(II)I" } : Jvm.MethodName)) ∈ lw_all := lw_g (lw_at lw_m6 83 rfl) rfl
theorem q1360 : (Jvm.Cond.methodLink "LoopLaneLaw" (70 : Nat) ({ cls := "LoopLaneModel", name := "number", desc := "(I)J" } : Jvm.MethodName)) ∈ lw_all := lw_g (lw_at lw_m6 88 rfl) rfl
theorem q1364 : (Jvm.Cond.methodLink "LoopLaneLaw" (79 : Nat) ({ cls := "LoopLaneModel", name := "whole", desc := "()I" } : Jvm.MethodName)) ∈ lw_all := lw_g (lw_at lw_m6 92 rfl) rfl
theorem q1368 : (Jvm.Cond.methodLink "LoopLaneLaw" (75 : Nat) ({ cls := "LoopLaneModel", name := "count", desc := "(I)I" } : Jvm.MethodName)) ∈ lw_all := lw_g (lw_at lw_m6 96 rfl) rfl
theorem q1388 : (Jvm.Cond.methodLink "LoopLaneLaw" (106 : Nat) ({ cls := "LoopLaneModel", name := "lowest", desc := "()I" } : Jvm.MethodName)) ∈ lw_all := lw_g (lw_at lw_m6 116 rfl) rfl
theorem q1417 : (Jvm.Cond.methodLink "LoopLaneLaw" (110 : Nat) ({ cls := "LoopLaneModel", name := "lay", desc := "()I" } : Jvm.MethodName)) ∈ lw_all := lw_g (lw_at lw_m6 145 rfl) rfl
theorem q1436 : (Jvm.Cond.methodLink "LoopLaneLaw" (114 : Nat) ({ cls := "LoopLaneModel", name := "prove", desc := "(I)I" } : Jvm.MethodName)) ∈ lw_all := lw_g (lw_at lw_m6 164 rfl) rfl
theorem q1441 : (Jvm.Cond.methodLink "LoopLaneLaw" (118 : Nat) ({ cls := "LoopLaneModel", name := "trials", desc := "()I" } : Jvm.MethodName)) ∈ lw_all := lw_g (lw_at lw_m6 169 rfl) rfl
theorem q1445 : (Jvm.Cond.methodLink "LoopLaneLaw" (122 : Nat) ({ cls := "LoopLaneModel", name := "laying", desc := "(I)I" } : Jvm.MethodName)) ∈ lw_all := lw_g (lw_at lw_m6 173 rfl) rfl
theorem q1450 : (Jvm.Cond.methodLink "LoopLaneLaw" (126 : Nat) ({ cls := "LoopLaneModel", name := "tick", desc := "(II)I" } : Jvm.MethodName)) ∈ lw_all := lw_g (lw_at lw_m6 178 rfl) rfl
theorem q1458 : (Jvm.Cond.methodLink "LoopLaneLaw" (130 : Nat) ({ cls := "LoopLaneModel", name := "filled", desc := "(II)I" } : Jvm.MethodName)) ∈ lw_all := lw_g (lw_at lw_m6 186 rfl) rfl
theorem q1462 : (Jvm.Cond.methodLink "LoopLaneLaw" (134 : Nat) ({ cls := "LoopLaneModel", name := "names", desc := "(I)I" } : Jvm.MethodName)) ∈ lw_all := lw_g (lw_at lw_m6 190 rfl) rfl
theorem q1470 : (Jvm.Cond.methodLink "LoopLaneLaw" (138 : Nat) ({ cls := "LoopLaneModel", name := "fewest", desc := "(I)I" } : Jvm.MethodName)) ∈ lw_all := lw_g (lw_at lw_m6 198 rfl) rfl
theorem q1474 : (Jvm.Cond.methodLink "LoopLaneLaw" (142 : Nat) ({ cls := "LoopLaneModel", name := "forge", desc := "(II)I" } : Jvm.MethodName)) ∈ lw_all := lw_g (lw_at lw_m6 202 rfl) rfl
theorem q1478 : (Jvm.Cond.methodLink "LoopLaneLaw" (146 : Nat) ({ cls := "LoopLaneModel", name := "check", desc := "()I" } : Jvm.MethodName)) ∈ lw_all := lw_g (lw_at lw_m6 206 rfl) rfl
theorem q1490 : (Jvm.Cond.methodLink "LoopLaneLaw" (150 : Nat) ({ cls := "LoopLaneModel", name := "wrong", desc := "(I)I" } : Jvm.MethodName)) ∈ lw_all := lw_g (lw_at lw_m6 218 rfl) rfl
theorem q1494 : (Jvm.Cond.methodLink "LoopLaneLaw" (84 : Nat) ({ cls := "LoopLaneModel", name := "row", desc := "(IIZ)I" } : Jvm.MethodName)) ∈ lw_all := lw_g (lw_at lw_m6 222 rfl) rfl
theorem q1502 : (Jvm.Cond.methodLink "LoopLaneLaw" (88 : Nat) ({ cls := "LoopLaneModel", name := "empty", desc := "(I)I" } : Jvm.MethodName)) ∈ lw_all := lw_g (lw_at lw_m6 230 rfl) rfl
theorem q1506 : (Jvm.Cond.methodLink "LoopLaneLaw" (93 : Nat) ({ cls := "LoopLaneModel", name := "set", desc := "(IIJ)I" } : Jvm.MethodName)) ∈ lw_all := lw_g (lw_at lw_m6 234 rfl) rfl
theorem q1514 : (Jvm.Cond.methodLink "LoopLaneLaw" (98 : Nat) ({ cls := "LoopLaneModel", name := "get", desc := "(II)J" } : Jvm.MethodName)) ∈ lw_all := lw_g (lw_at lw_m7 2 rfl) rfl
theorem q1518 : (Jvm.Cond.methodLink "LoopLaneLaw" (102 : Nat) ({ cls := "LoopLaneModel", name := "copy", desc := "(IIIII)I" } : Jvm.MethodName)) ∈ lw_all := lw_g (lw_at lw_m7 6 rfl) rfl
theorem q1522 : (Jvm.Cond.methodLink "LoopLaneLaw" (155 : Nat) ({ cls := "LoopLaneModel", name := "run", desc := "(IZ)I" } : Jvm.MethodName)) ∈ lw_all := lw_g (lw_at lw_m7 10 rfl) rfl
theorem q1547 : (Jvm.Cond.methodLink "LoopLaneLaw" (159 : Nat) ({ cls := "LoopLaneModel", name := "compare", desc := "(I)I" } : Jvm.MethodName)) ∈ lw_all := lw_g (lw_at lw_m7 35 rfl) rfl
theorem q1551 : (Jvm.Cond.methodLink "LoopLaneLaw" (163 : Nat) ({ cls := "LoopLaneModel", name := "told", desc := "(I)I" } : Jvm.MethodName)) ∈ lw_all := lw_g (lw_at lw_m7 39 rfl) rfl
theorem q1555 : (Jvm.Cond.methodLink "LoopLaneLaw" (167 : Nat) ({ cls := "LoopLaneModel", name := "end", desc := "(I)J" } : Jvm.MethodName)) ∈ lw_all := lw_g (lw_at lw_m7 43 rfl) rfl
theorem q1559 : (Jvm.Cond.methodLink "LoopLaneLaw" (171 : Nat) ({ cls := "LoopLaneModel", name := "again", desc := "()I" } : Jvm.MethodName)) ∈ lw_all := lw_g (lw_at lw_m7 47 rfl) rfl
theorem q1563 : (Jvm.Cond.methodLink "LoopLaneLaw" (175 : Nat) ({ cls := "LoopLaneModel", name := "status", desc := "(I)I" } : Jvm.MethodName)) ∈ lw_all := lw_g (lw_at lw_m7 51 rfl) rfl
theorem q1569 : (Jvm.Cond.constantLong "LoopLaneLaw" (13 : Nat) (4294967295 : Int64)) ∈ lw_all := lw_g (lw_at lw_m7 57 rfl) rfl

theorem q96 : (Jvm.Cond.initialized "java/lang/System") ∈ lw_all := lw_g (lw_at lw_m1 24 rfl) rfl
theorem q868 : (Jvm.Cond.static ({ cls := "java/lang/System", name := "arraycopy", desc := "(Ljava/lang/Object;ILjava/lang/Object;II)V" } : Jvm.MethodName)) ∈ lw_all := lw_g (lw_at lw_m4 76 rfl) rfl
theorem q869 : (Jvm.Cond.native ({ cls := "java/lang/System", name := "arraycopy", desc := "(Ljava/lang/Object;ILjava/lang/Object;II)V" } : Jvm.MethodName)) ∈ lw_all := lw_g (lw_at lw_m4 77 rfl) rfl

