/-! the reference, 6: pick, works, first, unit, edge, act, number -/
set_option maxRecDepth 100000
def js_X13_pick : jx_Sp := fun as g M Po => match as with
  | [(73, _, y), (0, _, x), (0, _, w), (0, _, z), (0, _, dz)] => (0 ≤ M y 9 ∧ M y 9 ≤ 16) ∧ (jx_r x ∧ jx_r w ∧ jx_r z ∧ jx_r dz) ∧
      (¬ (0 ≤ dz ∧ dz ≤ 4) → Po (0, 0, -9) g (mu_no M y (-9))) ∧
      (0 ≤ dz ∧ dz ≤ 4 → (¬ (mm_okop (M y 9) x 0 ∧ mm_okop (M y 9) w 0 ∧ mm_okop (M y 9) z dz) → Po (0, 0, -3) g (mu_no M y (-3))) ∧
        (mm_okop (M y 9) x 0 ∧ mm_okop (M y 9) w 0 ∧ mm_okop (M y 9) z dz → (M y 9 = 16 → Po (0, 0, -10) g (mu_no M y (-10))) ∧ (M y 9 ≠ 16 → Po (0, 0, M y 9) g (mu_op (mu_adds M y (M y 9) 6 (-1) x 0 w 0) y (3 * M y 9 + 2) z dz))))
  | _ => False
def cs_X13_pick : jx_Cs := [(384, 5, 0, 0, js_X13_operand), (448, 1, 0, 0, js_X13_areTurns), (372, 2, 0, 0, js_X13_no), (459, 3, 0, 0, js_X13_isBeyond), (429, 7, 0, 0, js_X13_adds)]
theorem hc_X13_pick {D : jx_D} {l : Launch} : jx_CsOK D l "LoopLaneModel" 3 cs_X13_pick := List.forall_mem_cons.mpr ⟨jc_X13_128 (jt_X13_operand l) (fun as g M Po (h : js_X13_operand as g M Po) => by unfold js_X13_operand at h; split at h <;> first | exact h.elim | exact ⟨_, _, _, rfl, rfl⟩) (by decide), List.forall_mem_cons.mpr ⟨jc_X13_149 (jt_X13_areTurns l) (fun as g M Po (h : js_X13_areTurns as g M Po) => by unfold js_X13_areTurns at h; split at h <;> first | exact h.elim | exact rfl) (by decide), List.forall_mem_cons.mpr ⟨jc_X13_124 (jt_X13_no l) (fun as g M Po (h : js_X13_no as g M Po) => by unfold js_X13_no at h; split at h <;> first | exact h.elim | exact ⟨_, _, _, rfl, rfl⟩) (by decide), List.forall_mem_cons.mpr ⟨jc_X13_153 (jt_X13_isBeyond l) (fun as g M Po (h : js_X13_isBeyond as g M Po) => by unfold js_X13_isBeyond at h; split at h <;> first | exact h.elim | exact ⟨_, _, _, rfl, rfl⟩) (by decide), List.forall_mem_cons.mpr ⟨jc_X13_143 (jt_X13_adds l) (fun as g M Po (h : js_X13_adds as g M Po) => by unfold js_X13_adds at h; split at h <;> first | exact h.elim | exact ⟨_, _, _, rfl, rfl⟩) (by decide), fun _ h => absurd h List.not_mem_nil⟩⟩⟩⟩⟩
set_option maxHeartbeats 4000000 in
theorem jt_X13_pick (l : Launch) : jx_Ct l yX13_pick (ws_ yX13_pick cX13_pick 6 (some .int)) 3 0 0 js_X13_pick := by
  refine jx_Ct_c (rc := 0) (by decide) rfl (fun D as g M Po hS => ?_)
  unfold js_X13_pick at hS
  split at hS
  · rename_i n1 y n2 x n3 w n4 z n5 dz
    obtain ⟨h1, ⟨r1, r2, r4, r5⟩, h2, h3⟩ := hS
    refine ⟨Nat.le_of_ble_eq_true rfl, ?_⟩
    refine jx_runL (o := jo_X13) (cs := cs_X13_pick) (hf := jx_nh) jo_X13_ok hc_X13_pick (jx_HK_nil rfl) (fun _ => false) 80 ?_
    simp only [jw, ju, jx_tg, Int.cast_ofNat_Int, Int.reduceAdd, Int.reduceToNat, Nat.reduceAdd, Nat.reduceMul, Nat.reduceBEq, Nat.reduceLeDiff, Int.reduceLE, Int.reduceLT, Int.reduceEq, Int.reduceNeg, Int.reduceSub, Int.reduceMul, not_false_eq_true, true_and, and_true, and_self, Bool.or_false, Bool.false_or, Bool.or_true, Bool.true_or, List.length_nil, List.length_cons, Nat.zero_le, or_true, true_or, Nat.le_refl, ↓reduceIte, Nat.reduceEqDiff, forall_const, false_and, and_false, false_implies, implies_true, not_true_eq_false, or_false, false_or, ne_eq, jd_X13_pick, jf_X13, js_X13_adds, js_X13_areTurns, js_X13_isBeyond, js_X13_no, js_X13_operand, cs_X13_pick, jx_ck_c]
    refine ⟨r5, fun c1 => ?_, fun c1 => h2 c1⟩
    obtain ⟨k1, k2⟩ := h3 c1
    refine ⟨r1, by omega, by omega, fun c3 => ⟨r2, by omega, by omega, fun c4 => ⟨r4, r5, by omega, fun c5 => ?_, fun c5 => k1 fun q => c5 q.2.2⟩, fun c4 => k1 fun q => c4 ⟨q.2.1.1, q.2.1.2 rfl⟩⟩, fun c3 => k1 fun q => c3 ⟨q.1.1, q.1.2 rfl⟩⟩
    have k3 := k2 ⟨⟨c3.1, fun _ => c3.2⟩, ⟨c4.1, fun _ => c4.2⟩, c5⟩
    exact ⟨h1, fun c => k3.1 c, fun c => ⟨by omega, fun d => by omega, fun d => ⟨by omega, k3.2 c⟩⟩⟩
  · exact hS.elim
def js_X13_works : jx_Sp := fun as g M Po => match as with
  | [(73, _, y), (0, _, a), (0, _, lg), (0, _, un), (0, _, pt)] => (0 ≤ M y 9 ∧ M y 9 ≤ 16) ∧ (jx_r a ∧ jx_r lg ∧ jx_r un ∧ jx_r pt) ∧
      (¬ ((0 ≤ a ∧ a < M y 9) ∧ (0 ≤ un ∧ un ≤ 5)) → Po (0, 0, -3) g (mu_no M y (-3))) ∧
      ((0 ≤ a ∧ a < M y 9) ∧ (0 ≤ un ∧ un ≤ 5) → (¬ ((1 ≤ lg ∧ lg ≤ 12) ∧ (1 ≤ pt ∧ pt ≤ 255)) → Po (0, 0, -9) g (mu_no M y (-9))) ∧
        ((1 ≤ lg ∧ lg ≤ 12) ∧ (1 ≤ pt ∧ pt ≤ 255) → Po (0, 0, 1) g (mu_changes (jx_u (jx_u (jx_u M (y + 2) a lg) (y + 3) a un) (y + 4) a pt) y)))
  | _ => False
def cs_X13_works : jx_Cs := [(477, 2, 0, 0, js_X13_isAct), (412, 3, 0, 0, js_X13_isIn), (372, 2, 0, 0, js_X13_no), (396, 1, 0, 0, js_X13_changes)]
theorem hc_X13_works {D : jx_D} {l : Launch} : jx_CsOK D l "LoopLaneModel" 3 cs_X13_works := List.forall_mem_cons.mpr ⟨jc_X13_159 (jt_X13_isAct l) (fun as g M Po (h : js_X13_isAct as g M Po) => by unfold js_X13_isAct at h; split at h <;> first | exact h.elim | exact ⟨_, _, _, rfl, rfl⟩) (by decide), List.forall_mem_cons.mpr ⟨jc_X13_137 (jt_X13_isIn l) (fun as g M Po (h : js_X13_isIn as g M Po) => by unfold js_X13_isIn at h; split at h <;> first | exact h.elim | exact rfl) (by decide), List.forall_mem_cons.mpr ⟨jc_X13_124 (jt_X13_no l) (fun as g M Po (h : js_X13_no as g M Po) => by unfold js_X13_no at h; split at h <;> first | exact h.elim | exact ⟨_, _, _, rfl, rfl⟩) (by decide), List.forall_mem_cons.mpr ⟨jc_X13_132 (jt_X13_changes l) (fun as g M Po (h : js_X13_changes as g M Po) => by unfold js_X13_changes at h; split at h <;> first | exact h.elim | exact ⟨_, _, _, rfl, rfl⟩) (by decide), fun _ h => absurd h List.not_mem_nil⟩⟩⟩⟩
set_option maxHeartbeats 4000000 in
theorem jt_X13_works (l : Launch) : jx_Ct l yX13_works (ws_ yX13_works cX13_works 5 (some .int)) 3 0 0 js_X13_works := by
  refine jx_Ct_c (rc := 0) (by decide) rfl (fun D as g M Po hS => ?_)
  unfold js_X13_works at hS
  split at hS
  · rename_i n1 y n2 a n3 lg n4 un n5 pt
    obtain ⟨h1, ⟨r1, r2, r3, r4⟩, h2, h3⟩ := hS
    refine ⟨Nat.le_of_ble_eq_true rfl, ?_⟩
    refine jx_runL (o := jo_X13) (cs := cs_X13_works) (hf := jx_nh) jo_X13_ok hc_X13_works (jx_HK_nil rfl) (fun _ => false) 80 ?_
    simp only [jw, ju, jx_tg, Int.cast_ofNat_Int, Int.reduceAdd, Int.reduceToNat, Nat.reduceAdd, Nat.reduceMul, Nat.reduceBEq, Nat.reduceLeDiff, Int.reduceLE, Int.reduceLT, Int.reduceEq, Int.reduceNeg, Int.reduceSub, Int.reduceMul, not_false_eq_true, true_and, and_true, and_self, Bool.or_false, Bool.false_or, Bool.or_true, Bool.true_or, List.length_nil, List.length_cons, Nat.zero_le, or_true, true_or, Nat.le_refl, ↓reduceIte, Nat.reduceEqDiff, forall_const, false_and, and_false, false_implies, implies_true, not_true_eq_false, or_false, false_or, ne_eq, jd_X13_works, jf_X13, js_X13_changes, js_X13_isAct, js_X13_isIn, js_X13_no, cs_X13_works, jx_ck_c]
    refine ⟨r1, by omega, fun c1 => ⟨r3, fun c2 => ?_, fun c2 => h2 fun q => c2 q.2⟩, fun c1 => h2 fun q => c1 q.1⟩
    obtain ⟨k1, k2⟩ := h3 ⟨c1, c2⟩
    exact ⟨r2, fun c3 => ⟨r4, fun c4 => ⟨by omega, by omega, by omega, k2 ⟨c3, c4⟩⟩, fun c4 => k1 fun q => c4 q.2⟩, fun c3 => k1 fun q => c3 q.1⟩
  · exact hS.elim
def js_X13_first : jx_Sp := fun as g M Po => match as with
  | [(73, _, y), (0, _, a), (1, _, v)] => (0 ≤ M y 9 ∧ M y 9 ≤ 16) ∧ jx_r a ∧ (¬ (0 ≤ a ∧ a < M y 9) → Po (0, 0, -3) g (mu_no M y (-3))) ∧ (0 ≤ a ∧ a < M y 9 → Po (0, 0, 1) g (jx_u M (y + 8) a v))
  | _ => False
def cs_X13_first : jx_Cs := [(477, 2, 0, 0, js_X13_isAct), (372, 2, 0, 0, js_X13_no)]
theorem hc_X13_first {D : jx_D} {l : Launch} : jx_CsOK D l "LoopLaneModel" 3 cs_X13_first := List.forall_mem_cons.mpr ⟨jc_X13_159 (jt_X13_isAct l) (fun as g M Po (h : js_X13_isAct as g M Po) => by unfold js_X13_isAct at h; split at h <;> first | exact h.elim | exact ⟨_, _, _, rfl, rfl⟩) (by decide), List.forall_mem_cons.mpr ⟨jc_X13_124 (jt_X13_no l) (fun as g M Po (h : js_X13_no as g M Po) => by unfold js_X13_no at h; split at h <;> first | exact h.elim | exact ⟨_, _, _, rfl, rfl⟩) (by decide), fun _ h => absurd h List.not_mem_nil⟩⟩
set_option maxHeartbeats 4000000 in
theorem jt_X13_first (l : Launch) : jx_Ct l yX13_first (ws_ yX13_first cX13_first 4 (some .int)) 3 0 0 js_X13_first := by
  refine jx_Ct_c (rc := 0) (by decide) rfl (fun D as g M Po hS => ?_)
  unfold js_X13_first at hS
  split at hS
  · rename_i n1 y n2 a n3 v
    obtain ⟨h1, r1, h2, h3⟩ := hS
    refine ⟨Nat.le_of_ble_eq_true rfl, ?_⟩
    refine jx_runL (o := jo_X13) (cs := cs_X13_first) (hf := jx_nh) jo_X13_ok hc_X13_first (jx_HK_nil rfl) (fun _ => false) 60 ?_
    simp only [jw, ju, jx_tg, Int.cast_ofNat_Int, Int.reduceAdd, Int.reduceToNat, Nat.reduceAdd, Nat.reduceMul, Nat.reduceBEq, Nat.reduceLeDiff, Int.reduceLE, Int.reduceLT, Int.reduceEq, Int.reduceNeg, Int.reduceSub, Int.reduceMul, not_false_eq_true, true_and, and_true, and_self, Bool.or_false, Bool.false_or, Bool.or_true, Bool.true_or, List.length_nil, List.length_cons, Nat.zero_le, or_true, true_or, Nat.le_refl, ↓reduceIte, Nat.reduceEqDiff, forall_const, false_and, and_false, false_implies, implies_true, not_true_eq_false, or_false, false_or, ne_eq, jd_X13_first, jf_X13, js_X13_isAct, js_X13_no, cs_X13_first, jx_ck_c]
    exact ⟨r1, by omega, fun c => ⟨by omega, h3 c⟩, fun c => h2 c⟩
  · exact hS.elim
def js_X13_unit : jx_Sp := fun as g M Po => match as with
  | [(73, _, y), (0, _, k), (0, _, n)] => (jx_r k ∧ jx_r n) ∧ (¬ (0 ≤ k ∧ k ≤ 5) → Po (0, 0, -3) g (mu_no M y (-3))) ∧ (0 ≤ k ∧ k ≤ 5 → (n < 0 → Po (0, 0, -4) g (mu_no M y (-4))) ∧ (4 < n → Po (0, 0, -9) g (mu_no M y (-9))) ∧ (0 ≤ n ∧ n ≤ 4 → Po (0, 0, M (y + 10) k) g (mu_changes (jx_u M (y + 10) k n) y)))
  | _ => False
def cs_X13_unit : jx_Cs := [(412, 3, 0, 0, js_X13_isIn), (372, 2, 0, 0, js_X13_no), (396, 1, 0, 0, js_X13_changes)]
theorem hc_X13_unit {D : jx_D} {l : Launch} : jx_CsOK D l "LoopLaneModel" 3 cs_X13_unit := List.forall_mem_cons.mpr ⟨jc_X13_137 (jt_X13_isIn l) (fun as g M Po (h : js_X13_isIn as g M Po) => by unfold js_X13_isIn at h; split at h <;> first | exact h.elim | exact rfl) (by decide), List.forall_mem_cons.mpr ⟨jc_X13_124 (jt_X13_no l) (fun as g M Po (h : js_X13_no as g M Po) => by unfold js_X13_no at h; split at h <;> first | exact h.elim | exact ⟨_, _, _, rfl, rfl⟩) (by decide), List.forall_mem_cons.mpr ⟨jc_X13_132 (jt_X13_changes l) (fun as g M Po (h : js_X13_changes as g M Po) => by unfold js_X13_changes at h; split at h <;> first | exact h.elim | exact ⟨_, _, _, rfl, rfl⟩) (by decide), fun _ h => absurd h List.not_mem_nil⟩⟩⟩
set_option maxHeartbeats 4000000 in
theorem jt_X13_unit (l : Launch) : jx_Ct l yX13_unit (ws_ yX13_unit cX13_unit 4 (some .int)) 3 0 0 js_X13_unit := by
  refine jx_Ct_c (rc := 0) (by decide) rfl (fun D as g M Po hS => ?_)
  unfold js_X13_unit at hS
  split at hS
  · rename_i n1 y n2 k n3 n
    obtain ⟨⟨r1, r2⟩, h2, h3⟩ := hS
    refine ⟨Nat.le_of_ble_eq_true rfl, ?_⟩
    refine jx_runL (o := jo_X13) (cs := cs_X13_unit) (hf := jx_nh) jo_X13_ok hc_X13_unit (jx_HK_nil rfl) (fun _ => false) 60 ?_
    simp only [jw, ju, jx_tg, Int.cast_ofNat_Int, Int.reduceAdd, Int.reduceToNat, Nat.reduceAdd, Nat.reduceMul, Nat.reduceBEq, Nat.reduceLeDiff, Int.reduceLE, Int.reduceLT, Int.reduceEq, Int.reduceNeg, Int.reduceSub, Int.reduceMul, not_false_eq_true, true_and, and_true, and_self, Bool.or_false, Bool.false_or, Bool.or_true, Bool.true_or, List.length_nil, List.length_cons, Nat.zero_le, or_true, true_or, Nat.le_refl, ↓reduceIte, Nat.reduceEqDiff, forall_const, false_and, and_false, false_implies, implies_true, not_true_eq_false, or_false, false_or, ne_eq, jd_X13_unit, jf_X13, js_X13_changes, js_X13_isIn, js_X13_no, cs_X13_unit, jx_ck_c]
    refine ⟨r1, fun c => ?_, fun c => h2 c⟩
    obtain ⟨k1, k2, k3⟩ := h3 c
    exact ⟨r2, fun c2 => ⟨r2, fun c3 => ⟨by omega, by omega, k3 ⟨by omega, by omega⟩⟩, fun c3 => k2 (by omega)⟩, fun c2 => k1 (by omega)⟩
  · exact hS.elim
