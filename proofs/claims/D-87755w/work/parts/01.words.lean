-- ===== PART A: goes FIRST, ahead of the names: the tables' words, and 'selects' of the private methods out of them =====
/-- a private method of a class that the tables say can be made, by its rows of tables_1 -/
def lw_okq (q : MethodName × Nat) : Prop := (q.1.cls ≠ "java/lang/invoke/MethodHandle" ∧ q.1.cls ≠ "java/lang/invoke/VarHandle") ∧ Cond.instantiable q.1.cls q.2 ∈ tables_1 ∧ Cond.privateMethod q.1 ∈ tables_1 ∧ Cond.instanceMethod q.1 ∈ tables_1
set_option maxRecDepth 100000
theorem lw_t1 {w : Cond} (h : w ∈ tables_1_1) : w ∈ tables_1 := List.mem_append_left _ h
theorem lw_t2 {w : Cond} (h : w ∈ tables_1_2) : w ∈ tables_1 := List.mem_append_right _ (List.mem_append_left _ h)
theorem lw_t3 {w : Cond} (h : w ∈ tables_1_3) : w ∈ tables_1 := List.mem_append_right _ (List.mem_append_right _ (List.mem_append_left _ h))
theorem lw_t4 {w : Cond} (h : w ∈ tables_1_4) : w ∈ tables_1 := List.mem_append_right _ (List.mem_append_right _ (List.mem_append_right _ (List.mem_append_left _ h)))
theorem lw_t5 {w : Cond} (h : w ∈ tables_1_5) : w ∈ tables_1 := List.mem_append_right _ (List.mem_append_right _ (List.mem_append_right _ (List.mem_append_right _ (List.mem_append_left _ h))))
theorem lw_t6 {w : Cond} (h : w ∈ tables_1_6) : w ∈ tables_1 := List.mem_append_right _ (List.mem_append_right _ (List.mem_append_right _ (List.mem_append_right _ (List.mem_append_right _ (List.mem_append_left _ h)))))
theorem lw_t7 {w : Cond} (h : w ∈ tables_1_7) : w ∈ tables_1 := List.mem_append_right _ (List.mem_append_right _ (List.mem_append_right _ (List.mem_append_right _ (List.mem_append_right _ (List.mem_append_right _ h)))))
theorem lw_p0 : lw_okq (⟨"java/lang/NullPointerException", "getExtendedNPEMessage", "()Ljava/lang/String;"⟩, 8) := ⟨⟨by decide +kernel, by decide +kernel⟩, lw_t1 (List.mem_of_getElem? (i := 160) rfl), lw_t1 (List.mem_of_getElem? (i := 158) rfl), lw_t1 (List.mem_of_getElem? (i := 159) rfl)⟩
theorem lw_p1 : lw_okq (⟨"java/lang/Throwable", "fillInStackTrace", "(I)Ljava/lang/Throwable;"⟩, 6) := ⟨⟨by decide +kernel, by decide +kernel⟩, lw_t1 (List.mem_of_getElem? (i := 172) rfl), lw_t1 (List.mem_of_getElem? (i := 170) rfl), lw_t1 (List.mem_of_getElem? (i := 171) rfl)⟩
theorem lw_p2 : lw_okq (⟨"LoopLane", "refuse", "(I)I"⟩, 47) := ⟨⟨by decide +kernel, by decide +kernel⟩, lw_t1 (List.mem_of_getElem? (i := 29) rfl), lw_t2 (List.mem_of_getElem? (i := 238) rfl), lw_t2 (List.mem_of_getElem? (i := 239) rfl)⟩
theorem lw_p3 : lw_okq (⟨"LoopLane", "added", "(LLoopLane$Act;)I"⟩, 47) := ⟨⟨by decide +kernel, by decide +kernel⟩, lw_t1 (List.mem_of_getElem? (i := 29) rfl), lw_t3 (List.mem_of_getElem? (i := 8) rfl), lw_t3 (List.mem_of_getElem? (i := 9) rfl)⟩
theorem lw_p4 : lw_okq (⟨"LoopLane", "changed", "()V"⟩, 47) := ⟨⟨by decide +kernel, by decide +kernel⟩, lw_t1 (List.mem_of_getElem? (i := 29) rfl), lw_t3 (List.mem_of_getElem? (i := 12) rfl), lw_t3 (List.mem_of_getElem? (i := 13) rfl)⟩
theorem lw_p5 : lw_okq (⟨"LoopLane", "findEdges", "()V"⟩, 47) := ⟨⟨by decide +kernel, by decide +kernel⟩, lw_t1 (List.mem_of_getElem? (i := 29) rfl), lw_t3 (List.mem_of_getElem? (i := 16) rfl), lw_t3 (List.mem_of_getElem? (i := 17) rfl)⟩
theorem lw_p6 : lw_okq (⟨"LoopLane", "link", "(IIII)V"⟩, 47) := ⟨⟨by decide +kernel, by decide +kernel⟩, lw_t1 (List.mem_of_getElem? (i := 29) rfl), lw_t3 (List.mem_of_getElem? (i := 20) rfl), lw_t3 (List.mem_of_getElem? (i := 21) rfl)⟩
theorem lw_p7 : lw_okq (⟨"LoopLane", "linkRows", "(I)V"⟩, 47) := ⟨⟨by decide +kernel, by decide +kernel⟩, lw_t1 (List.mem_of_getElem? (i := 29) rfl), lw_t3 (List.mem_of_getElem? (i := 37) rfl), lw_t3 (List.mem_of_getElem? (i := 38) rfl)⟩
theorem lw_p8 : lw_okq (⟨"LoopLane", "linkStore", "(I)V"⟩, 47) := ⟨⟨by decide +kernel, by decide +kernel⟩, lw_t1 (List.mem_of_getElem? (i := 29) rfl), lw_t3 (List.mem_of_getElem? (i := 67) rfl), lw_t3 (List.mem_of_getElem? (i := 68) rfl)⟩
theorem lw_p9 : lw_okq (⟨"LoopLane", "need", "(ZI)V"⟩, 47) := ⟨⟨by decide +kernel, by decide +kernel⟩, lw_t1 (List.mem_of_getElem? (i := 29) rfl), lw_t3 (List.mem_of_getElem? (i := 94) rfl), lw_t3 (List.mem_of_getElem? (i := 95) rfl)⟩
theorem lw_p10 : lw_okq (⟨"LoopLane", "needBack", "(I)V"⟩, 47) := ⟨⟨by decide +kernel, by decide +kernel⟩, lw_t1 (List.mem_of_getElem? (i := 29) rfl), lw_t3 (List.mem_of_getElem? (i := 98) rfl), lw_t3 (List.mem_of_getElem? (i := 99) rfl)⟩
theorem lw_p11 : lw_okq (⟨"LoopLane", "needAct", "(II)V"⟩, 47) := ⟨⟨by decide +kernel, by decide +kernel⟩, lw_t1 (List.mem_of_getElem? (i := 29) rfl), lw_t3 (List.mem_of_getElem? (i := 103) rfl), lw_t3 (List.mem_of_getElem? (i := 104) rfl)⟩
theorem lw_p12 : lw_okq (⟨"LoopLane", "reckoning", "(I)LLoopLane$Act;"⟩, 47) := ⟨⟨by decide +kernel, by decide +kernel⟩, lw_t1 (List.mem_of_getElem? (i := 29) rfl), lw_t3 (List.mem_of_getElem? (i := 108) rfl), lw_t3 (List.mem_of_getElem? (i := 109) rfl)⟩
theorem lw_p13 : lw_okq (⟨"LoopLane", "isAct", "(I)Z"⟩, 47) := ⟨⟨by decide +kernel, by decide +kernel⟩, lw_t1 (List.mem_of_getElem? (i := 29) rfl), lw_t3 (List.mem_of_getElem? (i := 150) rfl), lw_t3 (List.mem_of_getElem? (i := 151) rfl)⟩
theorem lw_p14 : lw_okq (⟨"LoopLane", "isTaken", "(I)Z"⟩, 47) := ⟨⟨by decide +kernel, by decide +kernel⟩, lw_t1 (List.mem_of_getElem? (i := 29) rfl), lw_t3 (List.mem_of_getElem? (i := 175) rfl), lw_t3 (List.mem_of_getElem? (i := 176) rfl)⟩
theorem lw_p15 : lw_okq (⟨"LoopLane", "isWhole", "()Z"⟩, 47) := ⟨⟨by decide +kernel, by decide +kernel⟩, lw_t1 (List.mem_of_getElem? (i := 29) rfl), lw_t3 (List.mem_of_getElem? (i := 223) rfl), lw_t3 (List.mem_of_getElem? (i := 224) rfl)⟩
def lw_privs_1 : List (MethodName × Nat) := [(⟨"java/lang/NullPointerException", "getExtendedNPEMessage", "()Ljava/lang/String;"⟩, 8), (⟨"java/lang/Throwable", "fillInStackTrace", "(I)Ljava/lang/Throwable;"⟩, 6), (⟨"LoopLane", "refuse", "(I)I"⟩, 47), (⟨"LoopLane", "added", "(LLoopLane$Act;)I"⟩, 47), (⟨"LoopLane", "changed", "()V"⟩, 47), (⟨"LoopLane", "findEdges", "()V"⟩, 47), (⟨"LoopLane", "link", "(IIII)V"⟩, 47), (⟨"LoopLane", "linkRows", "(I)V"⟩, 47), (⟨"LoopLane", "linkStore", "(I)V"⟩, 47), (⟨"LoopLane", "need", "(ZI)V"⟩, 47), (⟨"LoopLane", "needBack", "(I)V"⟩, 47), (⟨"LoopLane", "needAct", "(II)V"⟩, 47), (⟨"LoopLane", "reckoning", "(I)LLoopLane$Act;"⟩, 47), (⟨"LoopLane", "isAct", "(I)Z"⟩, 47), (⟨"LoopLane", "isTaken", "(I)Z"⟩, 47), (⟨"LoopLane", "isWhole", "()Z"⟩, 47)]
theorem lw_r1 : ∀ q ∈ lw_privs_1, lw_okq q := List.forall_mem_cons.mpr ⟨lw_p0, List.forall_mem_cons.mpr ⟨lw_p1, List.forall_mem_cons.mpr ⟨lw_p2, List.forall_mem_cons.mpr ⟨lw_p3, List.forall_mem_cons.mpr ⟨lw_p4, List.forall_mem_cons.mpr ⟨lw_p5, List.forall_mem_cons.mpr ⟨lw_p6, List.forall_mem_cons.mpr ⟨lw_p7, List.forall_mem_cons.mpr ⟨lw_p8, List.forall_mem_cons.mpr ⟨lw_p9, List.forall_mem_cons.mpr ⟨lw_p10, List.forall_mem_cons.mpr ⟨lw_p11, List.forall_mem_cons.mpr ⟨lw_p12, List.forall_mem_cons.mpr ⟨lw_p13, List.forall_mem_cons.mpr ⟨lw_p14, List.forall_mem_cons.mpr ⟨lw_p15, fun _ h => absurd h List.not_mem_nil⟩⟩⟩⟩⟩⟩⟩⟩⟩⟩⟩⟩⟩⟩⟩⟩
theorem lw_p16 : lw_okq (⟨"LoopLane", "copied", "(IIIII)I"⟩, 47) := ⟨⟨by decide +kernel, by decide +kernel⟩, lw_t1 (List.mem_of_getElem? (i := 29) rfl), lw_t4 (List.mem_of_getElem? (i := 70) rfl), lw_t4 (List.mem_of_getElem? (i := 71) rfl)⟩
theorem lw_p17 : lw_okq (⟨"LoopLane", "lowestBeat", "()I"⟩, 47) := ⟨⟨by decide +kernel, by decide +kernel⟩, lw_t1 (List.mem_of_getElem? (i := 29) rfl), lw_t4 (List.mem_of_getElem? (i := 83) rfl), lw_t4 (List.mem_of_getElem? (i := 84) rfl)⟩
theorem lw_p18 : lw_okq (⟨"LoopLane", "hasUnits", "(I)Z"⟩, 47) := ⟨⟨by decide +kernel, by decide +kernel⟩, lw_t1 (List.mem_of_getElem? (i := 29) rfl), lw_t4 (List.mem_of_getElem? (i := 87) rfl), lw_t4 (List.mem_of_getElem? (i := 88) rfl)⟩
theorem lw_p19 : lw_okq (⟨"LoopLane", "findWays", "(IIZ)Z"⟩, 47) := ⟨⟨by decide +kernel, by decide +kernel⟩, lw_t1 (List.mem_of_getElem? (i := 29) rfl), lw_t4 (List.mem_of_getElem? (i := 108) rfl), lw_t4 (List.mem_of_getElem? (i := 109) rfl)⟩
theorem lw_p20 : lw_okq (⟨"LoopLane", "layOut", "()I"⟩, 47) := ⟨⟨by decide +kernel, by decide +kernel⟩, lw_t1 (List.mem_of_getElem? (i := 29) rfl), lw_t4 (List.mem_of_getElem? (i := 126) rfl), lw_t4 (List.mem_of_getElem? (i := 127) rfl)⟩
theorem lw_p21 : lw_okq (⟨"LoopLane", "search", "(I)Z"⟩, 47) := ⟨⟨by decide +kernel, by decide +kernel⟩, lw_t1 (List.mem_of_getElem? (i := 29) rfl), lw_t4 (List.mem_of_getElem? (i := 130) rfl), lw_t4 (List.mem_of_getElem? (i := 131) rfl)⟩
theorem lw_p22 : lw_okq (⟨"LoopLane", "place", "(I)Z"⟩, 47) := ⟨⟨by decide +kernel, by decide +kernel⟩, lw_t1 (List.mem_of_getElem? (i := 29) rfl), lw_t4 (List.mem_of_getElem? (i := 134) rfl), lw_t4 (List.mem_of_getElem? (i := 135) rfl)⟩
theorem lw_p23 : lw_okq (⟨"LoopLane", "fill", "(II)Z"⟩, 47) := ⟨⟨by decide +kernel, by decide +kernel⟩, lw_t1 (List.mem_of_getElem? (i := 29) rfl), lw_t4 (List.mem_of_getElem? (i := 138) rfl), lw_t4 (List.mem_of_getElem? (i := 139) rfl)⟩
theorem lw_p24 : lw_okq (⟨"LoopLane", "take", "(I)V"⟩, 47) := ⟨⟨by decide +kernel, by decide +kernel⟩, lw_t1 (List.mem_of_getElem? (i := 29) rfl), lw_t4 (List.mem_of_getElem? (i := 142) rfl), lw_t4 (List.mem_of_getElem? (i := 143) rfl)⟩
theorem lw_p25 : lw_okq (⟨"LoopLane", "begin", "(I)I"⟩, 47) := ⟨⟨by decide +kernel, by decide +kernel⟩, lw_t1 (List.mem_of_getElem? (i := 29) rfl), lw_t4 (List.mem_of_getElem? (i := 146) rfl), lw_t4 (List.mem_of_getElem? (i := 147) rfl)⟩
theorem lw_p26 : lw_okq (⟨"LoopLane", "mostStages", "()I"⟩, 47) := ⟨⟨by decide +kernel, by decide +kernel⟩, lw_t1 (List.mem_of_getElem? (i := 29) rfl), lw_t4 (List.mem_of_getElem? (i := 162) rfl), lw_t4 (List.mem_of_getElem? (i := 163) rfl)⟩
theorem lw_p27 : lw_okq (⟨"LoopLane", "earliest", "(I)I"⟩, 47) := ⟨⟨by decide +kernel, by decide +kernel⟩, lw_t1 (List.mem_of_getElem? (i := 29) rfl), lw_t4 (List.mem_of_getElem? (i := 170) rfl), lw_t4 (List.mem_of_getElem? (i := 171) rfl)⟩
theorem lw_p28 : lw_okq (⟨"LoopLane", "latest", "(I)I"⟩, 47) := ⟨⟨by decide +kernel, by decide +kernel⟩, lw_t1 (List.mem_of_getElem? (i := 29) rfl), lw_t4 (List.mem_of_getElem? (i := 174) rfl), lw_t4 (List.mem_of_getElem? (i := 175) rfl)⟩
theorem lw_p29 : lw_okq (⟨"LoopLane", "filledAt", "(IIZ)I"⟩, 47) := ⟨⟨by decide +kernel, by decide +kernel⟩, lw_t1 (List.mem_of_getElem? (i := 29) rfl), lw_t4 (List.mem_of_getElem? (i := 185) rfl), lw_t4 (List.mem_of_getElem? (i := 186) rfl)⟩
theorem lw_p30 : lw_okq (⟨"LoopLane", "namesOf", "(I)I"⟩, 47) := ⟨⟨by decide +kernel, by decide +kernel⟩, lw_t1 (List.mem_of_getElem? (i := 29) rfl), lw_t4 (List.mem_of_getElem? (i := 193) rfl), lw_t4 (List.mem_of_getElem? (i := 194) rfl)⟩
theorem lw_p31 : lw_okq (⟨"LoopLane", "isAhead", "(II)Z"⟩, 47) := ⟨⟨by decide +kernel, by decide +kernel⟩, lw_t1 (List.mem_of_getElem? (i := 29) rfl), lw_t4 (List.mem_of_getElem? (i := 209) rfl), lw_t4 (List.mem_of_getElem? (i := 210) rfl)⟩
def lw_privs_2 : List (MethodName × Nat) := [(⟨"LoopLane", "copied", "(IIIII)I"⟩, 47), (⟨"LoopLane", "lowestBeat", "()I"⟩, 47), (⟨"LoopLane", "hasUnits", "(I)Z"⟩, 47), (⟨"LoopLane", "findWays", "(IIZ)Z"⟩, 47), (⟨"LoopLane", "layOut", "()I"⟩, 47), (⟨"LoopLane", "search", "(I)Z"⟩, 47), (⟨"LoopLane", "place", "(I)Z"⟩, 47), (⟨"LoopLane", "fill", "(II)Z"⟩, 47), (⟨"LoopLane", "take", "(I)V"⟩, 47), (⟨"LoopLane", "begin", "(I)I"⟩, 47), (⟨"LoopLane", "mostStages", "()I"⟩, 47), (⟨"LoopLane", "earliest", "(I)I"⟩, 47), (⟨"LoopLane", "latest", "(I)I"⟩, 47), (⟨"LoopLane", "filledAt", "(IIZ)I"⟩, 47), (⟨"LoopLane", "namesOf", "(I)I"⟩, 47), (⟨"LoopLane", "isAhead", "(II)Z"⟩, 47)]
theorem lw_r2 : ∀ q ∈ lw_privs_2, lw_okq q := List.forall_mem_cons.mpr ⟨lw_p16, List.forall_mem_cons.mpr ⟨lw_p17, List.forall_mem_cons.mpr ⟨lw_p18, List.forall_mem_cons.mpr ⟨lw_p19, List.forall_mem_cons.mpr ⟨lw_p20, List.forall_mem_cons.mpr ⟨lw_p21, List.forall_mem_cons.mpr ⟨lw_p22, List.forall_mem_cons.mpr ⟨lw_p23, List.forall_mem_cons.mpr ⟨lw_p24, List.forall_mem_cons.mpr ⟨lw_p25, List.forall_mem_cons.mpr ⟨lw_p26, List.forall_mem_cons.mpr ⟨lw_p27, List.forall_mem_cons.mpr ⟨lw_p28, List.forall_mem_cons.mpr ⟨lw_p29, List.forall_mem_cons.mpr ⟨lw_p30, List.forall_mem_cons.mpr ⟨lw_p31, fun _ h => absurd h List.not_mem_nil⟩⟩⟩⟩⟩⟩⟩⟩⟩⟩⟩⟩⟩⟩⟩⟩
theorem lw_p32 : lw_okq (⟨"LoopLane", "needRun", "(IZ)V"⟩, 47) := ⟨⟨by decide +kernel, by decide +kernel⟩, lw_t1 (List.mem_of_getElem? (i := 29) rfl), lw_t4 (List.mem_of_getElem? (i := 221) rfl), lw_t4 (List.mem_of_getElem? (i := 222) rfl)⟩
theorem lw_p33 : lw_okq (⟨"LoopLane", "run", "(LLoopLane$Result;IZ)V"⟩, 47) := ⟨⟨by decide +kernel, by decide +kernel⟩, lw_t1 (List.mem_of_getElem? (i := 29) rfl), lw_t4 (List.mem_of_getElem? (i := 225) rfl), lw_t4 (List.mem_of_getElem? (i := 226) rfl)⟩
theorem lw_p34 : lw_okq (⟨"LoopLane", "runLaid", "(LLoopLane$Result;I)V"⟩, 47) := ⟨⟨by decide +kernel, by decide +kernel⟩, lw_t1 (List.mem_of_getElem? (i := 29) rfl), lw_t4 (List.mem_of_getElem? (i := 229) rfl), lw_t4 (List.mem_of_getElem? (i := 230) rfl)⟩
theorem lw_p35 : lw_okq (⟨"LoopLane", "named", "(LLoopLane$Act;II)J"⟩, 47) := ⟨⟨by decide +kernel, by decide +kernel⟩, lw_t1 (List.mem_of_getElem? (i := 29) rfl), lw_t4 (List.mem_of_getElem? (i := 233) rfl), lw_t4 (List.mem_of_getElem? (i := 234) rfl)⟩
theorem lw_p36 : lw_okq (⟨"LoopLane", "work", "(LLoopLane$Act;JJJI)I"⟩, 47) := ⟨⟨by decide +kernel, by decide +kernel⟩, lw_t1 (List.mem_of_getElem? (i := 29) rfl), lw_t4 (List.mem_of_getElem? (i := 237) rfl), lw_t4 (List.mem_of_getElem? (i := 238) rfl)⟩
theorem lw_p37 : lw_okq (⟨"LoopLane", "runPlain", "(LLoopLane$Result;I)V"⟩, 47) := ⟨⟨by decide +kernel, by decide +kernel⟩, lw_t1 (List.mem_of_getElem? (i := 29) rfl), lw_t5 (List.mem_of_getElem? (i := 52) rfl), lw_t5 (List.mem_of_getElem? (i := 53) rfl)⟩
theorem lw_p38 : lw_okq (⟨"LoopLane", "plainly", "(LLoopLane$Act;II)J"⟩, 47) := ⟨⟨by decide +kernel, by decide +kernel⟩, lw_t1 (List.mem_of_getElem? (i := 29) rfl), lw_t5 (List.mem_of_getElem? (i := 56) rfl), lw_t5 (List.mem_of_getElem? (i := 57) rfl)⟩
theorem lw_p39 : lw_okq (⟨"LoopLane", "compareRuns", "(I)I"⟩, 47) := ⟨⟨by decide +kernel, by decide +kernel⟩, lw_t1 (List.mem_of_getElem? (i := 29) rfl), lw_t5 (List.mem_of_getElem? (i := 64) rfl), lw_t5 (List.mem_of_getElem? (i := 65) rfl)⟩
theorem lw_p40 : lw_okq (⟨"LoopLane", "keepRows", "([JZ)V"⟩, 47) := ⟨⟨by decide +kernel, by decide +kernel⟩, lw_t1 (List.mem_of_getElem? (i := 29) rfl), lw_t5 (List.mem_of_getElem? (i := 68) rfl), lw_t5 (List.mem_of_getElem? (i := 69) rfl)⟩
theorem lw_p41 : lw_okq (⟨"LoopLane", "areRows", "([J)Z"⟩, 47) := ⟨⟨by decide +kernel, by decide +kernel⟩, lw_t1 (List.mem_of_getElem? (i := 29) rfl), lw_t5 (List.mem_of_getElem? (i := 72) rfl), lw_t5 (List.mem_of_getElem? (i := 73) rfl)⟩
theorem lw_p42 : lw_okq (⟨"LoopLaneModel", "forget", "()V"⟩, 45) := ⟨⟨by decide +kernel, by decide +kernel⟩, lw_t5 (List.mem_of_getElem? (i := 94) rfl), lw_t5 (List.mem_of_getElem? (i := 100) rfl), lw_t5 (List.mem_of_getElem? (i := 101) rfl)⟩
theorem lw_p43 : lw_okq (⟨"LoopLaneModel", "unwrong", "()V"⟩, 45) := ⟨⟨by decide +kernel, by decide +kernel⟩, lw_t5 (List.mem_of_getElem? (i := 94) rfl), lw_t5 (List.mem_of_getElem? (i := 104) rfl), lw_t5 (List.mem_of_getElem? (i := 105) rfl)⟩
theorem lw_p44 : lw_okq (⟨"LoopLaneModel", "adds", "(IIIIII)I"⟩, 45) := ⟨⟨by decide +kernel, by decide +kernel⟩, lw_t5 (List.mem_of_getElem? (i := 94) rfl), lw_t6 (List.mem_of_getElem? (i := 9) rfl), lw_t6 (List.mem_of_getElem? (i := 10) rfl)⟩
theorem lw_p45 : lw_okq (⟨"LoopLaneModel", "no", "(I)I"⟩, 45) := ⟨⟨by decide +kernel, by decide +kernel⟩, lw_t5 (List.mem_of_getElem? (i := 94) rfl), lw_t6 (List.mem_of_getElem? (i := 13) rfl), lw_t6 (List.mem_of_getElem? (i := 14) rfl)⟩
theorem lw_p46 : lw_okq (⟨"LoopLaneModel", "operand", "(IIII)V"⟩, 45) := ⟨⟨by decide +kernel, by decide +kernel⟩, lw_t5 (List.mem_of_getElem? (i := 94) rfl), lw_t6 (List.mem_of_getElem? (i := 17) rfl), lw_t6 (List.mem_of_getElem? (i := 18) rfl)⟩
theorem lw_p47 : lw_okq (⟨"LoopLaneModel", "changes", "()V"⟩, 45) := ⟨⟨by decide +kernel, by decide +kernel⟩, lw_t5 (List.mem_of_getElem? (i := 94) rfl), lw_t6 (List.mem_of_getElem? (i := 21) rfl), lw_t6 (List.mem_of_getElem? (i := 22) rfl)⟩
def lw_privs_3 : List (MethodName × Nat) := [(⟨"LoopLane", "needRun", "(IZ)V"⟩, 47), (⟨"LoopLane", "run", "(LLoopLane$Result;IZ)V"⟩, 47), (⟨"LoopLane", "runLaid", "(LLoopLane$Result;I)V"⟩, 47), (⟨"LoopLane", "named", "(LLoopLane$Act;II)J"⟩, 47), (⟨"LoopLane", "work", "(LLoopLane$Act;JJJI)I"⟩, 47), (⟨"LoopLane", "runPlain", "(LLoopLane$Result;I)V"⟩, 47), (⟨"LoopLane", "plainly", "(LLoopLane$Act;II)J"⟩, 47), (⟨"LoopLane", "compareRuns", "(I)I"⟩, 47), (⟨"LoopLane", "keepRows", "([JZ)V"⟩, 47), (⟨"LoopLane", "areRows", "([J)Z"⟩, 47), (⟨"LoopLaneModel", "forget", "()V"⟩, 45), (⟨"LoopLaneModel", "unwrong", "()V"⟩, 45), (⟨"LoopLaneModel", "adds", "(IIIIII)I"⟩, 45), (⟨"LoopLaneModel", "no", "(I)I"⟩, 45), (⟨"LoopLaneModel", "operand", "(IIII)V"⟩, 45), (⟨"LoopLaneModel", "changes", "()V"⟩, 45)]
theorem lw_r3 : ∀ q ∈ lw_privs_3, lw_okq q := List.forall_mem_cons.mpr ⟨lw_p32, List.forall_mem_cons.mpr ⟨lw_p33, List.forall_mem_cons.mpr ⟨lw_p34, List.forall_mem_cons.mpr ⟨lw_p35, List.forall_mem_cons.mpr ⟨lw_p36, List.forall_mem_cons.mpr ⟨lw_p37, List.forall_mem_cons.mpr ⟨lw_p38, List.forall_mem_cons.mpr ⟨lw_p39, List.forall_mem_cons.mpr ⟨lw_p40, List.forall_mem_cons.mpr ⟨lw_p41, List.forall_mem_cons.mpr ⟨lw_p42, List.forall_mem_cons.mpr ⟨lw_p43, List.forall_mem_cons.mpr ⟨lw_p44, List.forall_mem_cons.mpr ⟨lw_p45, List.forall_mem_cons.mpr ⟨lw_p46, List.forall_mem_cons.mpr ⟨lw_p47, fun _ h => absurd h List.not_mem_nil⟩⟩⟩⟩⟩⟩⟩⟩⟩⟩⟩⟩⟩⟩⟩⟩
theorem lw_p48 : lw_okq (⟨"LoopLaneModel", "isBeyond", "(II)Z"⟩, 45) := ⟨⟨by decide +kernel, by decide +kernel⟩, lw_t5 (List.mem_of_getElem? (i := 94) rfl), lw_t6 (List.mem_of_getElem? (i := 37) rfl), lw_t6 (List.mem_of_getElem? (i := 38) rfl)⟩
theorem lw_p49 : lw_okq (⟨"LoopLaneModel", "isAct", "(I)Z"⟩, 45) := ⟨⟨by decide +kernel, by decide +kernel⟩, lw_t5 (List.mem_of_getElem? (i := 94) rfl), lw_t6 (List.mem_of_getElem? (i := 59) rfl), lw_t6 (List.mem_of_getElem? (i := 60) rfl)⟩
theorem lw_p50 : lw_okq (⟨"LoopLaneModel", "gather", "()V"⟩, 45) := ⟨⟨by decide +kernel, by decide +kernel⟩, lw_t5 (List.mem_of_getElem? (i := 94) rfl), lw_t6 (List.mem_of_getElem? (i := 101) rfl), lw_t6 (List.mem_of_getElem? (i := 102) rfl)⟩
theorem lw_p51 : lw_okq (⟨"LoopLaneModel", "enter", "(IIII)V"⟩, 45) := ⟨⟨by decide +kernel, by decide +kernel⟩, lw_t5 (List.mem_of_getElem? (i := 94) rfl), lw_t6 (List.mem_of_getElem? (i := 105) rfl), lw_t6 (List.mem_of_getElem? (i := 106) rfl)⟩
theorem lw_p52 : lw_okq (⟨"LoopLaneModel", "gatherTwo", "(II)V"⟩, 45) := ⟨⟨by decide +kernel, by decide +kernel⟩, lw_t5 (List.mem_of_getElem? (i := 94) rfl), lw_t6 (List.mem_of_getElem? (i := 109) rfl), lw_t6 (List.mem_of_getElem? (i := 110) rfl)⟩
theorem lw_p53 : lw_okq (⟨"LoopLaneModel", "isOfRow", "(I)Z"⟩, 45) := ⟨⟨by decide +kernel, by decide +kernel⟩, lw_t5 (List.mem_of_getElem? (i := 94) rfl), lw_t6 (List.mem_of_getElem? (i := 113) rfl), lw_t6 (List.mem_of_getElem? (i := 114) rfl)⟩
theorem lw_p54 : lw_okq (⟨"LoopLaneModel", "isReady", "()Z"⟩, 45) := ⟨⟨by decide +kernel, by decide +kernel⟩, lw_t5 (List.mem_of_getElem? (i := 94) rfl), lw_t6 (List.mem_of_getElem? (i := 121) rfl), lw_t6 (List.mem_of_getElem? (i := 122) rfl)⟩
theorem lw_p55 : lw_okq (⟨"LoopLaneModel", "lowestBeat", "()I"⟩, 45) := ⟨⟨by decide +kernel, by decide +kernel⟩, lw_t5 (List.mem_of_getElem? (i := 94) rfl), lw_t6 (List.mem_of_getElem? (i := 126) rfl), lw_t6 (List.mem_of_getElem? (i := 127) rfl)⟩
theorem lw_p56 : lw_okq (⟨"LoopLaneModel", "byUnits", "()I"⟩, 45) := ⟨⟨by decide +kernel, by decide +kernel⟩, lw_t5 (List.mem_of_getElem? (i := 94) rfl), lw_t6 (List.mem_of_getElem? (i := 130) rfl), lw_t6 (List.mem_of_getElem? (i := 131) rfl)⟩
theorem lw_p57 : lw_okq (⟨"LoopLaneModel", "byRings", "()I"⟩, 45) := ⟨⟨by decide +kernel, by decide +kernel⟩, lw_t5 (List.mem_of_getElem? (i := 94) rfl), lw_t6 (List.mem_of_getElem? (i := 138) rfl), lw_t6 (List.mem_of_getElem? (i := 139) rfl)⟩
theorem lw_p58 : lw_okq (⟨"LoopLaneModel", "rests", "(I)Z"⟩, 45) := ⟨⟨by decide +kernel, by decide +kernel⟩, lw_t5 (List.mem_of_getElem? (i := 94) rfl), lw_t6 (List.mem_of_getElem? (i := 142) rfl), lw_t6 (List.mem_of_getElem? (i := 143) rfl)⟩
theorem lw_p59 : lw_okq (⟨"LoopLaneModel", "tries", "(I)I"⟩, 45) := ⟨⟨by decide +kernel, by decide +kernel⟩, lw_t5 (List.mem_of_getElem? (i := 94) rfl), lw_t6 (List.mem_of_getElem? (i := 150) rfl), lw_t6 (List.mem_of_getElem? (i := 151) rfl)⟩
theorem lw_p60 : lw_okq (⟨"LoopLaneModel", "fits", "(II)Z"⟩, 45) := ⟨⟨by decide +kernel, by decide +kernel⟩, lw_t5 (List.mem_of_getElem? (i := 94) rfl), lw_t6 (List.mem_of_getElem? (i := 154) rfl), lw_t6 (List.mem_of_getElem? (i := 155) rfl)⟩
theorem lw_p61 : lw_okq (⟨"LoopLaneModel", "holds", "(II)Z"⟩, 45) := ⟨⟨by decide +kernel, by decide +kernel⟩, lw_t5 (List.mem_of_getElem? (i := 94) rfl), lw_t6 (List.mem_of_getElem? (i := 158) rfl), lw_t6 (List.mem_of_getElem? (i := 159) rfl)⟩
theorem lw_p62 : lw_okq (⟨"LoopLaneModel", "latestBegin", "(I)I"⟩, 45) := ⟨⟨by decide +kernel, by decide +kernel⟩, lw_t5 (List.mem_of_getElem? (i := 94) rfl), lw_t6 (List.mem_of_getElem? (i := 183) rfl), lw_t6 (List.mem_of_getElem? (i := 184) rfl)⟩
theorem lw_p63 : lw_okq (⟨"LoopLaneModel", "placesOf", "(I)I"⟩, 45) := ⟨⟨by decide +kernel, by decide +kernel⟩, lw_t5 (List.mem_of_getElem? (i := 94) rfl), lw_t6 (List.mem_of_getElem? (i := 195) rfl), lw_t6 (List.mem_of_getElem? (i := 196) rfl)⟩
def lw_privs_4 : List (MethodName × Nat) := [(⟨"LoopLaneModel", "isBeyond", "(II)Z"⟩, 45), (⟨"LoopLaneModel", "isAct", "(I)Z"⟩, 45), (⟨"LoopLaneModel", "gather", "()V"⟩, 45), (⟨"LoopLaneModel", "enter", "(IIII)V"⟩, 45), (⟨"LoopLaneModel", "gatherTwo", "(II)V"⟩, 45), (⟨"LoopLaneModel", "isOfRow", "(I)Z"⟩, 45), (⟨"LoopLaneModel", "isReady", "()Z"⟩, 45), (⟨"LoopLaneModel", "lowestBeat", "()I"⟩, 45), (⟨"LoopLaneModel", "byUnits", "()I"⟩, 45), (⟨"LoopLaneModel", "byRings", "()I"⟩, 45), (⟨"LoopLaneModel", "rests", "(I)Z"⟩, 45), (⟨"LoopLaneModel", "tries", "(I)I"⟩, 45), (⟨"LoopLaneModel", "fits", "(II)Z"⟩, 45), (⟨"LoopLaneModel", "holds", "(II)Z"⟩, 45), (⟨"LoopLaneModel", "latestBegin", "(I)I"⟩, 45), (⟨"LoopLaneModel", "placesOf", "(I)I"⟩, 45)]
theorem lw_r4 : ∀ q ∈ lw_privs_4, lw_okq q := List.forall_mem_cons.mpr ⟨lw_p48, List.forall_mem_cons.mpr ⟨lw_p49, List.forall_mem_cons.mpr ⟨lw_p50, List.forall_mem_cons.mpr ⟨lw_p51, List.forall_mem_cons.mpr ⟨lw_p52, List.forall_mem_cons.mpr ⟨lw_p53, List.forall_mem_cons.mpr ⟨lw_p54, List.forall_mem_cons.mpr ⟨lw_p55, List.forall_mem_cons.mpr ⟨lw_p56, List.forall_mem_cons.mpr ⟨lw_p57, List.forall_mem_cons.mpr ⟨lw_p58, List.forall_mem_cons.mpr ⟨lw_p59, List.forall_mem_cons.mpr ⟨lw_p60, List.forall_mem_cons.mpr ⟨lw_p61, List.forall_mem_cons.mpr ⟨lw_p62, List.forall_mem_cons.mpr ⟨lw_p63, fun _ h => absurd h List.not_mem_nil⟩⟩⟩⟩⟩⟩⟩⟩⟩⟩⟩⟩⟩⟩⟩⟩
theorem lw_p64 : lw_okq (⟨"LoopLaneModel", "isAhead", "(I)Z"⟩, 45) := ⟨⟨by decide +kernel, by decide +kernel⟩, lw_t5 (List.mem_of_getElem? (i := 94) rfl), lw_t6 (List.mem_of_getElem? (i := 211) rfl), lw_t6 (List.mem_of_getElem? (i := 212) rfl)⟩
theorem lw_p65 : lw_okq (⟨"LoopLaneModel", "filledAs", "(II)I"⟩, 45) := ⟨⟨by decide +kernel, by decide +kernel⟩, lw_t5 (List.mem_of_getElem? (i := 94) rfl), lw_t6 (List.mem_of_getElem? (i := 215) rfl), lw_t6 (List.mem_of_getElem? (i := 216) rfl)⟩
theorem lw_p66 : lw_okq (⟨"LoopLaneModel", "why", "(IJ)I"⟩, 45) := ⟨⟨by decide +kernel, by decide +kernel⟩, lw_t5 (List.mem_of_getElem? (i := 94) rfl), lw_t6 (List.mem_of_getElem? (i := 239) rfl), lw_t7 (List.mem_of_getElem? (i := 0) rfl)⟩
theorem lw_p67 : lw_okq (⟨"LoopLaneModel", "whyNoRun", "(IZ)I"⟩, 45) := ⟨⟨by decide +kernel, by decide +kernel⟩, lw_t5 (List.mem_of_getElem? (i := 94) rfl), lw_t7 (List.mem_of_getElem? (i := 15) rfl), lw_t7 (List.mem_of_getElem? (i := 16) rfl)⟩
theorem lw_p68 : lw_okq (⟨"LoopLaneModel", "laid", "(I)V"⟩, 45) := ⟨⟨by decide +kernel, by decide +kernel⟩, lw_t5 (List.mem_of_getElem? (i := 94) rfl), lw_t7 (List.mem_of_getElem? (i := 20) rfl), lw_t7 (List.mem_of_getElem? (i := 21) rfl)⟩
theorem lw_p69 : lw_okq (⟨"LoopLaneModel", "does", "(II)I"⟩, 45) := ⟨⟨by decide +kernel, by decide +kernel⟩, lw_t5 (List.mem_of_getElem? (i := 94) rfl), lw_t7 (List.mem_of_getElem? (i := 24) rfl), lw_t7 (List.mem_of_getElem? (i := 25) rfl)⟩
theorem lw_p70 : lw_okq (⟨"LoopLaneModel", "value", "(III)J"⟩, 45) := ⟨⟨by decide +kernel, by decide +kernel⟩, lw_t5 (List.mem_of_getElem? (i := 94) rfl), lw_t7 (List.mem_of_getElem? (i := 28) rfl), lw_t7 (List.mem_of_getElem? (i := 29) rfl)⟩
theorem lw_p71 : lw_okq (⟨"LoopLaneModel", "plain", "(I)V"⟩, 45) := ⟨⟨by decide +kernel, by decide +kernel⟩, lw_t5 (List.mem_of_getElem? (i := 94) rfl), lw_t7 (List.mem_of_getElem? (i := 32) rfl), lw_t7 (List.mem_of_getElem? (i := 33) rfl)⟩
def lw_privs_5 : List (MethodName × Nat) := [(⟨"LoopLaneModel", "isAhead", "(I)Z"⟩, 45), (⟨"LoopLaneModel", "filledAs", "(II)I"⟩, 45), (⟨"LoopLaneModel", "why", "(IJ)I"⟩, 45), (⟨"LoopLaneModel", "whyNoRun", "(IZ)I"⟩, 45), (⟨"LoopLaneModel", "laid", "(I)V"⟩, 45), (⟨"LoopLaneModel", "does", "(II)I"⟩, 45), (⟨"LoopLaneModel", "value", "(III)J"⟩, 45), (⟨"LoopLaneModel", "plain", "(I)V"⟩, 45)]
theorem lw_r5 : ∀ q ∈ lw_privs_5, lw_okq q := List.forall_mem_cons.mpr ⟨lw_p64, List.forall_mem_cons.mpr ⟨lw_p65, List.forall_mem_cons.mpr ⟨lw_p66, List.forall_mem_cons.mpr ⟨lw_p67, List.forall_mem_cons.mpr ⟨lw_p68, List.forall_mem_cons.mpr ⟨lw_p69, List.forall_mem_cons.mpr ⟨lw_p70, List.forall_mem_cons.mpr ⟨lw_p71, fun _ h => absurd h List.not_mem_nil⟩⟩⟩⟩⟩⟩⟩⟩
def lw_privs : List (MethodName × Nat) := lw_privs_1 ++ (lw_privs_2 ++ (lw_privs_3 ++ (lw_privs_4 ++ (lw_privs_5))))
def lw_tbl : List Cond := k2_sels lw_privs ++ tables_1
theorem lw_privs_ok : ∀ q ∈ lw_privs, lw_okq q := by
  show ∀ q ∈ lw_privs_1 ++ (lw_privs_2 ++ (lw_privs_3 ++ (lw_privs_4 ++ (lw_privs_5)))), lw_okq q
  exact List.forall_mem_append.mpr ⟨lw_r1, List.forall_mem_append.mpr ⟨lw_r2, List.forall_mem_append.mpr ⟨lw_r3, List.forall_mem_append.mpr ⟨lw_r4, lw_r5⟩⟩⟩⟩
-- ===== ONE list of words for every method: the tables' words that hold all through a run =====
def lw_all : List Cond := lw_tbl.filter goodWord
/-- a word of the tables by its place: claim/WORDS.tsv -/
theorem lw_w {w : Cond} (i : Nat) (h : lw_tbl[i]? = some w) (g : goodWord w = true) : w ∈ lw_all := List.mem_filter.mpr ⟨List.mem_of_getElem? h, g⟩
theorem lw_all_tbl {w : Cond} (h : w ∈ lw_all) : w ∈ lw_tbl := (List.mem_filter.mp h).1
theorem lw_self : GoodIn lw_all lw_all := fun w h => ⟨h, good_of_word (List.mem_filter.mp h).2⟩
/-- a class's field words, by their places -/
theorem lw_in (ws : List Cond) (ps : List Nat) (hp : ws = ps.filterMap (fun i => lw_tbl[i]?)) (hg : ws.all goodWord = true) : ∀ w ∈ ws, w ∈ lw_all := by
  intro w h
  have h1 := List.all_eq_true.mp hg w h
  rw [hp] at h
  obtain ⟨i, -, hi⟩ := List.mem_filterMap.mp h
  exact lw_w i hi h1
/-- the words of a contract for the method y with code b, L locals, answer r -/
abbrev ws_ (y : MethodName) (b : ByteArray) (L : Nat) (r : Option FieldType) : List Cond := Cond.code y b L r :: lw_all
theorem lw_meth {y : MethodName} {b : ByteArray} {L : Nat} {r : Option FieldType} (h : Cond.code y b L r ∈ lw_all) : GoodIn lw_all (ws_ y b L r) := by
  intro w hw
  rcases List.mem_cons.mp hw with e | e
  · rw [e]
    exact lw_self _ h
  · exact lw_self _ e
theorem lw_app {a c : List Cond} (ha : ∀ w ∈ a, w ∈ lw_all) (hc : GoodIn lw_all c) : GoodIn lw_all (a ++ c) := by
  intro w hw
  rcases List.mem_append.mp hw with e | e
  · exact lw_self w (ha w e)
  · exact hc w e
/-- what a call through an object asks: cwV n hts (lw_V ..) -/
theorem lw_V {own : String} {idx : Nat} {C : String} {y : MethodName} {b : ByteArray} {L : Nat} {r : Option FieldType} (h1 : Cond.methodLink own idx y ∈ lw_all) (h2 : Cond.instanceMethod y ∈ lw_all) (h3 : Cond.selects C y y ∈ lw_all) (h4 : Cond.initialized C ∈ lw_all) (h5 : Cond.code y b L r ∈ lw_all) : GoodIn lw_all (wsV own idx C y (ws_ y b L r)) := by
  refine lw_app ?_ (lw_meth h5)
  intro w hw
  simp only [List.mem_cons, List.not_mem_nil, or_false] at hw
  rcases hw with e | e | e | e
  · rw [e]; exact h1
  · rw [e]; exact h2
  · rw [e]; exact h3
  · rw [e]; exact h4
/-- what a static call asks: va_cwS n hts (lw_S ..) -/
theorem lw_S {own : String} {idx : Nat} {y : MethodName} {b : ByteArray} {L : Nat} {r : Option FieldType} (h1 : Cond.methodLink own idx y ∈ lw_all) (h2 : Cond.static y ∈ lw_all) (h3 : Cond.initialized y.cls ∈ lw_all) (h4 : Cond.code y b L r ∈ lw_all) : GoodIn lw_all (va_wsS own idx y (ws_ y b L r)) := by
  refine lw_app ?_ (lw_meth h4)
  intro w hw
  simp only [List.mem_cons, List.not_mem_nil, or_false] at hw
  rcases hw with e | e | e
  · rw [e]; exact h1
  · rw [e]; exact h2
  · rw [e]; exact h3
/-- the words of a contract for a method WITH HANDLERS (hh: its table) -/
abbrev wsW_ (y : MethodName) (b : ByteArray) (L : Nat) (r : Option FieldType) (hh : List (Nat × Nat × Nat × Nat)) : List Cond := Cond.codeWith y b L r hh :: lw_all
theorem lw_methW {y : MethodName} {b : ByteArray} {L : Nat} {r : Option FieldType} {hh : List (Nat × Nat × Nat × Nat)} (h : Cond.codeWith y b L r hh ∈ lw_all) : GoodIn lw_all (wsW_ y b L r hh) := by
  intro w hw
  rcases List.mem_cons.mp hw with e | e
  · rw [e]
    exact lw_self _ h
  · exact lw_self _ e
/-- any list of words by their places (lw_in), good -/
theorem lw_good {ws : List Cond} (h : ∀ w ∈ ws, w ∈ lw_all) : GoodIn lw_all ws := fun w hw => lw_self w (h w hw)
/-- what a call of a method with handlers asks: vx_cwVW n hts (lw_VW ..), vx_cwSW n hts (lw_SW ..) -/
theorem lw_VW {own : String} {idx : Nat} {C : String} {y : MethodName} {b : ByteArray} {L : Nat} {r : Option FieldType} {hh : List (Nat × Nat × Nat × Nat)} (h1 : Cond.methodLink own idx y ∈ lw_all) (h2 : Cond.instanceMethod y ∈ lw_all) (h3 : Cond.selects C y y ∈ lw_all) (h4 : Cond.initialized C ∈ lw_all) (h5 : Cond.codeWith y b L r hh ∈ lw_all) : GoodIn lw_all (wsV own idx C y (wsW_ y b L r hh)) := by
  refine lw_app ?_ (lw_methW h5)
  intro w hw
  simp only [List.mem_cons, List.not_mem_nil, or_false] at hw
  rcases hw with e | e | e | e
  · rw [e]; exact h1
  · rw [e]; exact h2
  · rw [e]; exact h3
  · rw [e]; exact h4
theorem lw_SW {own : String} {idx : Nat} {y : MethodName} {b : ByteArray} {L : Nat} {r : Option FieldType} {hh : List (Nat × Nat × Nat × Nat)} (h1 : Cond.methodLink own idx y ∈ lw_all) (h2 : Cond.static y ∈ lw_all) (h3 : Cond.initialized y.cls ∈ lw_all) (h4 : Cond.codeWith y b L r hh ∈ lw_all) : GoodIn lw_all (va_wsS own idx y (wsW_ y b L r hh)) := by
  refine lw_app ?_ (lw_methW h4)
  intro w hw
  simp only [List.mem_cons, List.not_mem_nil, or_false] at hw
  rcases hw with e | e | e
  · rw [e]; exact h1
  · rw [e]; exact h2
  · rw [e]; exact h3
/-- a word by its place in its run of the tables -/
theorem lw_at {r : List Cond} (hr : ∀ w ∈ r, w ∈ lw_tbl) {w : Cond} (i : Nat) (h : r[i]? = some w) : w ∈ lw_tbl := hr w (List.mem_of_getElem? h)
theorem lw_g {w : Cond} (h : w ∈ lw_tbl) (g : goodWord w = true) : w ∈ lw_all := List.mem_filter.mpr ⟨h, g⟩
theorem lw_ms : ∀ w ∈ k2_sels lw_privs, w ∈ lw_tbl := fun w h => show w ∈ k2_sels lw_privs ++ tables_1 from List.mem_append_left _ h
theorem lw_m1 : ∀ w ∈ tables_1_1, w ∈ lw_tbl := fun w h => show w ∈ k2_sels lw_privs ++ tables_1 from List.mem_append_right (k2_sels lw_privs) (show w ∈ tables_1 from List.mem_append_left _ h)
theorem lw_m2 : ∀ w ∈ tables_1_2, w ∈ lw_tbl := fun w h => show w ∈ k2_sels lw_privs ++ tables_1 from List.mem_append_right (k2_sels lw_privs) (show w ∈ tables_1 from List.mem_append_right _ (List.mem_append_left _ h))
theorem lw_m3 : ∀ w ∈ tables_1_3, w ∈ lw_tbl := fun w h => show w ∈ k2_sels lw_privs ++ tables_1 from List.mem_append_right (k2_sels lw_privs) (show w ∈ tables_1 from List.mem_append_right _ (List.mem_append_right _ (List.mem_append_left _ h)))
theorem lw_m4 : ∀ w ∈ tables_1_4, w ∈ lw_tbl := fun w h => show w ∈ k2_sels lw_privs ++ tables_1 from List.mem_append_right (k2_sels lw_privs) (show w ∈ tables_1 from List.mem_append_right _ (List.mem_append_right _ (List.mem_append_right _ (List.mem_append_left _ h))))
theorem lw_m5 : ∀ w ∈ tables_1_5, w ∈ lw_tbl := fun w h => show w ∈ k2_sels lw_privs ++ tables_1 from List.mem_append_right (k2_sels lw_privs) (show w ∈ tables_1 from List.mem_append_right _ (List.mem_append_right _ (List.mem_append_right _ (List.mem_append_right _ (List.mem_append_left _ h)))))
theorem lw_m6 : ∀ w ∈ tables_1_6, w ∈ lw_tbl := fun w h => show w ∈ k2_sels lw_privs ++ tables_1 from List.mem_append_right (k2_sels lw_privs) (show w ∈ tables_1 from List.mem_append_right _ (List.mem_append_right _ (List.mem_append_right _ (List.mem_append_right _ (List.mem_append_right _ (List.mem_append_left _ h))))))
theorem lw_m7 : ∀ w ∈ tables_1_7, w ∈ lw_tbl := fun w h => show w ∈ k2_sels lw_privs ++ tables_1 from List.mem_append_right (k2_sels lw_privs) (show w ∈ tables_1 from List.mem_append_right _ (List.mem_append_right _ (List.mem_append_right _ (List.mem_append_right _ (List.mem_append_right _ (List.mem_append_right _ h))))))
theorem qs0 : (Cond.selects "java/lang/NullPointerException" ⟨"java/lang/NullPointerException", "getExtendedNPEMessage", "()Ljava/lang/String;"⟩ ⟨"java/lang/NullPointerException", "getExtendedNPEMessage", "()Ljava/lang/String;"⟩) ∈ lw_all := lw_g (lw_at lw_ms 0 rfl) rfl
theorem qs1 : (Cond.selects "java/lang/Throwable" ⟨"java/lang/Throwable", "fillInStackTrace", "(I)Ljava/lang/Throwable;"⟩ ⟨"java/lang/Throwable", "fillInStackTrace", "(I)Ljava/lang/Throwable;"⟩) ∈ lw_all := lw_g (lw_at lw_ms 1 rfl) rfl
theorem qs2 : (Cond.selects "LoopLane" ⟨"LoopLane", "refuse", "(I)I"⟩ ⟨"LoopLane", "refuse", "(I)I"⟩) ∈ lw_all := lw_g (lw_at lw_ms 2 rfl) rfl
theorem qs3 : (Cond.selects "LoopLane" ⟨"LoopLane", "added", "(LLoopLane$Act;)I"⟩ ⟨"LoopLane", "added", "(LLoopLane$Act;)I"⟩) ∈ lw_all := lw_g (lw_at lw_ms 3 rfl) rfl
theorem qs4 : (Cond.selects "LoopLane" ⟨"LoopLane", "changed", "()V"⟩ ⟨"LoopLane", "changed", "()V"⟩) ∈ lw_all := lw_g (lw_at lw_ms 4 rfl) rfl
theorem qs5 : (Cond.selects "LoopLane" ⟨"LoopLane", "findEdges", "()V"⟩ ⟨"LoopLane", "findEdges", "()V"⟩) ∈ lw_all := lw_g (lw_at lw_ms 5 rfl) rfl
theorem qs6 : (Cond.selects "LoopLane" ⟨"LoopLane", "link", "(IIII)V"⟩ ⟨"LoopLane", "link", "(IIII)V"⟩) ∈ lw_all := lw_g (lw_at lw_ms 6 rfl) rfl
theorem qs7 : (Cond.selects "LoopLane" ⟨"LoopLane", "linkRows", "(I)V"⟩ ⟨"LoopLane", "linkRows", "(I)V"⟩) ∈ lw_all := lw_g (lw_at lw_ms 7 rfl) rfl
theorem qs8 : (Cond.selects "LoopLane" ⟨"LoopLane", "linkStore", "(I)V"⟩ ⟨"LoopLane", "linkStore", "(I)V"⟩) ∈ lw_all := lw_g (lw_at lw_ms 8 rfl) rfl
theorem qs9 : (Cond.selects "LoopLane" ⟨"LoopLane", "need", "(ZI)V"⟩ ⟨"LoopLane", "need", "(ZI)V"⟩) ∈ lw_all := lw_g (lw_at lw_ms 9 rfl) rfl
theorem qs10 : (Cond.selects "LoopLane" ⟨"LoopLane", "needBack", "(I)V"⟩ ⟨"LoopLane", "needBack", "(I)V"⟩) ∈ lw_all := lw_g (lw_at lw_ms 10 rfl) rfl
theorem qs11 : (Cond.selects "LoopLane" ⟨"LoopLane", "needAct", "(II)V"⟩ ⟨"LoopLane", "needAct", "(II)V"⟩) ∈ lw_all := lw_g (lw_at lw_ms 11 rfl) rfl
theorem qs12 : (Cond.selects "LoopLane" ⟨"LoopLane", "reckoning", "(I)LLoopLane$Act;"⟩ ⟨"LoopLane", "reckoning", "(I)LLoopLane$Act;"⟩) ∈ lw_all := lw_g (lw_at lw_ms 12 rfl) rfl
theorem qs13 : (Cond.selects "LoopLane" ⟨"LoopLane", "isAct", "(I)Z"⟩ ⟨"LoopLane", "isAct", "(I)Z"⟩) ∈ lw_all := lw_g (lw_at lw_ms 13 rfl) rfl
theorem qs14 : (Cond.selects "LoopLane" ⟨"LoopLane", "isTaken", "(I)Z"⟩ ⟨"LoopLane", "isTaken", "(I)Z"⟩) ∈ lw_all := lw_g (lw_at lw_ms 14 rfl) rfl
theorem qs15 : (Cond.selects "LoopLane" ⟨"LoopLane", "isWhole", "()Z"⟩ ⟨"LoopLane", "isWhole", "()Z"⟩) ∈ lw_all := lw_g (lw_at lw_ms 15 rfl) rfl
theorem qs16 : (Cond.selects "LoopLane" ⟨"LoopLane", "copied", "(IIIII)I"⟩ ⟨"LoopLane", "copied", "(IIIII)I"⟩) ∈ lw_all := lw_g (lw_at lw_ms 16 rfl) rfl
theorem qs17 : (Cond.selects "LoopLane" ⟨"LoopLane", "lowestBeat", "()I"⟩ ⟨"LoopLane", "lowestBeat", "()I"⟩) ∈ lw_all := lw_g (lw_at lw_ms 17 rfl) rfl
theorem qs18 : (Cond.selects "LoopLane" ⟨"LoopLane", "hasUnits", "(I)Z"⟩ ⟨"LoopLane", "hasUnits", "(I)Z"⟩) ∈ lw_all := lw_g (lw_at lw_ms 18 rfl) rfl
theorem qs19 : (Cond.selects "LoopLane" ⟨"LoopLane", "findWays", "(IIZ)Z"⟩ ⟨"LoopLane", "findWays", "(IIZ)Z"⟩) ∈ lw_all := lw_g (lw_at lw_ms 19 rfl) rfl
theorem qs20 : (Cond.selects "LoopLane" ⟨"LoopLane", "layOut", "()I"⟩ ⟨"LoopLane", "layOut", "()I"⟩) ∈ lw_all := lw_g (lw_at lw_ms 20 rfl) rfl
theorem qs21 : (Cond.selects "LoopLane" ⟨"LoopLane", "search", "(I)Z"⟩ ⟨"LoopLane", "search", "(I)Z"⟩) ∈ lw_all := lw_g (lw_at lw_ms 21 rfl) rfl
theorem qs22 : (Cond.selects "LoopLane" ⟨"LoopLane", "place", "(I)Z"⟩ ⟨"LoopLane", "place", "(I)Z"⟩) ∈ lw_all := lw_g (lw_at lw_ms 22 rfl) rfl
theorem qs23 : (Cond.selects "LoopLane" ⟨"LoopLane", "fill", "(II)Z"⟩ ⟨"LoopLane", "fill", "(II)Z"⟩) ∈ lw_all := lw_g (lw_at lw_ms 23 rfl) rfl
theorem qs24 : (Cond.selects "LoopLane" ⟨"LoopLane", "take", "(I)V"⟩ ⟨"LoopLane", "take", "(I)V"⟩) ∈ lw_all := lw_g (lw_at lw_ms 24 rfl) rfl
theorem qs25 : (Cond.selects "LoopLane" ⟨"LoopLane", "begin", "(I)I"⟩ ⟨"LoopLane", "begin", "(I)I"⟩) ∈ lw_all := lw_g (lw_at lw_ms 25 rfl) rfl
theorem qs26 : (Cond.selects "LoopLane" ⟨"LoopLane", "mostStages", "()I"⟩ ⟨"LoopLane", "mostStages", "()I"⟩) ∈ lw_all := lw_g (lw_at lw_ms 26 rfl) rfl
theorem qs27 : (Cond.selects "LoopLane" ⟨"LoopLane", "earliest", "(I)I"⟩ ⟨"LoopLane", "earliest", "(I)I"⟩) ∈ lw_all := lw_g (lw_at lw_ms 27 rfl) rfl
theorem qs28 : (Cond.selects "LoopLane" ⟨"LoopLane", "latest", "(I)I"⟩ ⟨"LoopLane", "latest", "(I)I"⟩) ∈ lw_all := lw_g (lw_at lw_ms 28 rfl) rfl
theorem qs29 : (Cond.selects "LoopLane" ⟨"LoopLane", "filledAt", "(IIZ)I"⟩ ⟨"LoopLane", "filledAt", "(IIZ)I"⟩) ∈ lw_all := lw_g (lw_at lw_ms 29 rfl) rfl
theorem qs30 : (Cond.selects "LoopLane" ⟨"LoopLane", "namesOf", "(I)I"⟩ ⟨"LoopLane", "namesOf", "(I)I"⟩) ∈ lw_all := lw_g (lw_at lw_ms 30 rfl) rfl
theorem qs31 : (Cond.selects "LoopLane" ⟨"LoopLane", "isAhead", "(II)Z"⟩ ⟨"LoopLane", "isAhead", "(II)Z"⟩) ∈ lw_all := lw_g (lw_at lw_ms 31 rfl) rfl
theorem qs32 : (Cond.selects "LoopLane" ⟨"LoopLane", "needRun", "(IZ)V"⟩ ⟨"LoopLane", "needRun", "(IZ)V"⟩) ∈ lw_all := lw_g (lw_at lw_ms 32 rfl) rfl
theorem qs33 : (Cond.selects "LoopLane" ⟨"LoopLane", "run", "(LLoopLane$Result;IZ)V"⟩ ⟨"LoopLane", "run", "(LLoopLane$Result;IZ)V"⟩) ∈ lw_all := lw_g (lw_at lw_ms 33 rfl) rfl
theorem qs34 : (Cond.selects "LoopLane" ⟨"LoopLane", "runLaid", "(LLoopLane$Result;I)V"⟩ ⟨"LoopLane", "runLaid", "(LLoopLane$Result;I)V"⟩) ∈ lw_all := lw_g (lw_at lw_ms 34 rfl) rfl
theorem qs35 : (Cond.selects "LoopLane" ⟨"LoopLane", "named", "(LLoopLane$Act;II)J"⟩ ⟨"LoopLane", "named", "(LLoopLane$Act;II)J"⟩) ∈ lw_all := lw_g (lw_at lw_ms 35 rfl) rfl
theorem qs36 : (Cond.selects "LoopLane" ⟨"LoopLane", "work", "(LLoopLane$Act;JJJI)I"⟩ ⟨"LoopLane", "work", "(LLoopLane$Act;JJJI)I"⟩) ∈ lw_all := lw_g (lw_at lw_ms 36 rfl) rfl
theorem qs37 : (Cond.selects "LoopLane" ⟨"LoopLane", "runPlain", "(LLoopLane$Result;I)V"⟩ ⟨"LoopLane", "runPlain", "(LLoopLane$Result;I)V"⟩) ∈ lw_all := lw_g (lw_at lw_ms 37 rfl) rfl
theorem qs38 : (Cond.selects "LoopLane" ⟨"LoopLane", "plainly", "(LLoopLane$Act;II)J"⟩ ⟨"LoopLane", "plainly", "(LLoopLane$Act;II)J"⟩) ∈ lw_all := lw_g (lw_at lw_ms 38 rfl) rfl
theorem qs39 : (Cond.selects "LoopLane" ⟨"LoopLane", "compareRuns", "(I)I"⟩ ⟨"LoopLane", "compareRuns", "(I)I"⟩) ∈ lw_all := lw_g (lw_at lw_ms 39 rfl) rfl
theorem qs40 : (Cond.selects "LoopLane" ⟨"LoopLane", "keepRows", "([JZ)V"⟩ ⟨"LoopLane", "keepRows", "([JZ)V"⟩) ∈ lw_all := lw_g (lw_at lw_ms 40 rfl) rfl
theorem qs41 : (Cond.selects "LoopLane" ⟨"LoopLane", "areRows", "([J)Z"⟩ ⟨"LoopLane", "areRows", "([J)Z"⟩) ∈ lw_all := lw_g (lw_at lw_ms 41 rfl) rfl
theorem qs42 : (Cond.selects "LoopLaneModel" ⟨"LoopLaneModel", "forget", "()V"⟩ ⟨"LoopLaneModel", "forget", "()V"⟩) ∈ lw_all := lw_g (lw_at lw_ms 42 rfl) rfl
theorem qs43 : (Cond.selects "LoopLaneModel" ⟨"LoopLaneModel", "unwrong", "()V"⟩ ⟨"LoopLaneModel", "unwrong", "()V"⟩) ∈ lw_all := lw_g (lw_at lw_ms 43 rfl) rfl
theorem qs44 : (Cond.selects "LoopLaneModel" ⟨"LoopLaneModel", "adds", "(IIIIII)I"⟩ ⟨"LoopLaneModel", "adds", "(IIIIII)I"⟩) ∈ lw_all := lw_g (lw_at lw_ms 44 rfl) rfl
theorem qs45 : (Cond.selects "LoopLaneModel" ⟨"LoopLaneModel", "no", "(I)I"⟩ ⟨"LoopLaneModel", "no", "(I)I"⟩) ∈ lw_all := lw_g (lw_at lw_ms 45 rfl) rfl
theorem qs46 : (Cond.selects "LoopLaneModel" ⟨"LoopLaneModel", "operand", "(IIII)V"⟩ ⟨"LoopLaneModel", "operand", "(IIII)V"⟩) ∈ lw_all := lw_g (lw_at lw_ms 46 rfl) rfl
theorem qs47 : (Cond.selects "LoopLaneModel" ⟨"LoopLaneModel", "changes", "()V"⟩ ⟨"LoopLaneModel", "changes", "()V"⟩) ∈ lw_all := lw_g (lw_at lw_ms 47 rfl) rfl
theorem qs48 : (Cond.selects "LoopLaneModel" ⟨"LoopLaneModel", "isBeyond", "(II)Z"⟩ ⟨"LoopLaneModel", "isBeyond", "(II)Z"⟩) ∈ lw_all := lw_g (lw_at lw_ms 48 rfl) rfl
theorem qs49 : (Cond.selects "LoopLaneModel" ⟨"LoopLaneModel", "isAct", "(I)Z"⟩ ⟨"LoopLaneModel", "isAct", "(I)Z"⟩) ∈ lw_all := lw_g (lw_at lw_ms 49 rfl) rfl
theorem qs50 : (Cond.selects "LoopLaneModel" ⟨"LoopLaneModel", "gather", "()V"⟩ ⟨"LoopLaneModel", "gather", "()V"⟩) ∈ lw_all := lw_g (lw_at lw_ms 50 rfl) rfl
theorem qs51 : (Cond.selects "LoopLaneModel" ⟨"LoopLaneModel", "enter", "(IIII)V"⟩ ⟨"LoopLaneModel", "enter", "(IIII)V"⟩) ∈ lw_all := lw_g (lw_at lw_ms 51 rfl) rfl
theorem qs52 : (Cond.selects "LoopLaneModel" ⟨"LoopLaneModel", "gatherTwo", "(II)V"⟩ ⟨"LoopLaneModel", "gatherTwo", "(II)V"⟩) ∈ lw_all := lw_g (lw_at lw_ms 52 rfl) rfl
theorem qs53 : (Cond.selects "LoopLaneModel" ⟨"LoopLaneModel", "isOfRow", "(I)Z"⟩ ⟨"LoopLaneModel", "isOfRow", "(I)Z"⟩) ∈ lw_all := lw_g (lw_at lw_ms 53 rfl) rfl
theorem qs54 : (Cond.selects "LoopLaneModel" ⟨"LoopLaneModel", "isReady", "()Z"⟩ ⟨"LoopLaneModel", "isReady", "()Z"⟩) ∈ lw_all := lw_g (lw_at lw_ms 54 rfl) rfl
theorem qs55 : (Cond.selects "LoopLaneModel" ⟨"LoopLaneModel", "lowestBeat", "()I"⟩ ⟨"LoopLaneModel", "lowestBeat", "()I"⟩) ∈ lw_all := lw_g (lw_at lw_ms 55 rfl) rfl
theorem qs56 : (Cond.selects "LoopLaneModel" ⟨"LoopLaneModel", "byUnits", "()I"⟩ ⟨"LoopLaneModel", "byUnits", "()I"⟩) ∈ lw_all := lw_g (lw_at lw_ms 56 rfl) rfl
theorem qs57 : (Cond.selects "LoopLaneModel" ⟨"LoopLaneModel", "byRings", "()I"⟩ ⟨"LoopLaneModel", "byRings", "()I"⟩) ∈ lw_all := lw_g (lw_at lw_ms 57 rfl) rfl
theorem qs58 : (Cond.selects "LoopLaneModel" ⟨"LoopLaneModel", "rests", "(I)Z"⟩ ⟨"LoopLaneModel", "rests", "(I)Z"⟩) ∈ lw_all := lw_g (lw_at lw_ms 58 rfl) rfl
theorem qs59 : (Cond.selects "LoopLaneModel" ⟨"LoopLaneModel", "tries", "(I)I"⟩ ⟨"LoopLaneModel", "tries", "(I)I"⟩) ∈ lw_all := lw_g (lw_at lw_ms 59 rfl) rfl
theorem qs60 : (Cond.selects "LoopLaneModel" ⟨"LoopLaneModel", "fits", "(II)Z"⟩ ⟨"LoopLaneModel", "fits", "(II)Z"⟩) ∈ lw_all := lw_g (lw_at lw_ms 60 rfl) rfl
theorem qs61 : (Cond.selects "LoopLaneModel" ⟨"LoopLaneModel", "holds", "(II)Z"⟩ ⟨"LoopLaneModel", "holds", "(II)Z"⟩) ∈ lw_all := lw_g (lw_at lw_ms 61 rfl) rfl
theorem qs62 : (Cond.selects "LoopLaneModel" ⟨"LoopLaneModel", "latestBegin", "(I)I"⟩ ⟨"LoopLaneModel", "latestBegin", "(I)I"⟩) ∈ lw_all := lw_g (lw_at lw_ms 62 rfl) rfl
theorem qs63 : (Cond.selects "LoopLaneModel" ⟨"LoopLaneModel", "placesOf", "(I)I"⟩ ⟨"LoopLaneModel", "placesOf", "(I)I"⟩) ∈ lw_all := lw_g (lw_at lw_ms 63 rfl) rfl
theorem qs64 : (Cond.selects "LoopLaneModel" ⟨"LoopLaneModel", "isAhead", "(I)Z"⟩ ⟨"LoopLaneModel", "isAhead", "(I)Z"⟩) ∈ lw_all := lw_g (lw_at lw_ms 64 rfl) rfl
theorem qs65 : (Cond.selects "LoopLaneModel" ⟨"LoopLaneModel", "filledAs", "(II)I"⟩ ⟨"LoopLaneModel", "filledAs", "(II)I"⟩) ∈ lw_all := lw_g (lw_at lw_ms 65 rfl) rfl
theorem qs66 : (Cond.selects "LoopLaneModel" ⟨"LoopLaneModel", "why", "(IJ)I"⟩ ⟨"LoopLaneModel", "why", "(IJ)I"⟩) ∈ lw_all := lw_g (lw_at lw_ms 66 rfl) rfl
theorem qs67 : (Cond.selects "LoopLaneModel" ⟨"LoopLaneModel", "whyNoRun", "(IZ)I"⟩ ⟨"LoopLaneModel", "whyNoRun", "(IZ)I"⟩) ∈ lw_all := lw_g (lw_at lw_ms 67 rfl) rfl
theorem qs68 : (Cond.selects "LoopLaneModel" ⟨"LoopLaneModel", "laid", "(I)V"⟩ ⟨"LoopLaneModel", "laid", "(I)V"⟩) ∈ lw_all := lw_g (lw_at lw_ms 68 rfl) rfl
theorem qs69 : (Cond.selects "LoopLaneModel" ⟨"LoopLaneModel", "does", "(II)I"⟩ ⟨"LoopLaneModel", "does", "(II)I"⟩) ∈ lw_all := lw_g (lw_at lw_ms 69 rfl) rfl
theorem qs70 : (Cond.selects "LoopLaneModel" ⟨"LoopLaneModel", "value", "(III)J"⟩ ⟨"LoopLaneModel", "value", "(III)J"⟩) ∈ lw_all := lw_g (lw_at lw_ms 70 rfl) rfl
theorem qs71 : (Cond.selects "LoopLaneModel" ⟨"LoopLaneModel", "plain", "(I)V"⟩ ⟨"LoopLaneModel", "plain", "(I)V"⟩) ∈ lw_all := lw_g (lw_at lw_ms 71 rfl) rfl
