/-! the reference, 1: leaves -/
set_option maxRecDepth 100000
def js_X13_isIn : jx_Sp := fun as g M Po => match as with
  | [(1, _, v), (1, _, a), (1, _, b)] => (a ≤ v ∧ v ≤ b → Po (0, 0, 1) g M) ∧ (¬ (a ≤ v ∧ v ≤ b) → Po (0, 0, 0) g M)
  | _ => False
set_option maxHeartbeats 4000000 in
theorem jt_X13_isIn (l : Launch) : jx_Ct l yX13_isIn (ws_ yX13_isIn cX13_isIn 6 (some .boolean)) 0 0 0 js_X13_isIn := by
  refine jx_Ct_c (rc := 4) (by decide) rfl (fun D as g M Po hS => ?_)
  unfold js_X13_isIn at hS
  split at hS
  · rename_i n1 v n2 a n3 b
    refine ⟨Nat.le_of_ble_eq_true rfl, ?_⟩
    refine jx_runL (o := jo_X13) (cs := []) (hf := jx_nh) jo_X13_ok jx_cs0 (jx_HK_nil rfl) (fun _ => false) 30 ?_
    simp only [jw, ju, jx_tg, Int.cast_ofNat_Int, Int.reduceAdd, Int.reduceToNat, Nat.reduceAdd, Nat.reduceMul, Nat.reduceBEq, Nat.reduceLeDiff, Int.reduceLE, Int.reduceLT, Int.reduceEq, Int.reduceNeg, Int.reduceSub, Int.reduceMul, not_false_eq_true, true_and, and_true, and_self, Bool.or_false, Bool.false_or, Bool.or_true, Bool.true_or, List.length_nil, List.length_cons, Nat.zero_le, or_true, true_or, Nat.le_refl, ↓reduceIte, Nat.reduceEqDiff, forall_const, false_and, and_false, false_implies, implies_true, not_true_eq_false, or_false, false_or, ne_eq, jd_X13_isIn, jf_X13, jx_cmp_lt, jx_cmp_gt]
    have := @jx_cmp_r v a
    have := @jx_cmp_r v b
    refine ⟨by omega, fun c => hS.2 (by omega), fun c => ⟨by omega, fun c2 => hS.2 (by omega), fun c2 => hS.1 (by omega)⟩⟩
  · exact hS.elim
def js_X13_no : jx_Sp := fun as g M Po => match as with
  | [(73, _, y), (0, _, w)] => (-11 ≤ w ∧ w ≤ 0) ∧ Po (0, 0, w) g (jx_u (jx_u M (y + 23) (-w) (M (y + 23) (-w) + 1)) y 26 w)
  | _ => False
set_option maxHeartbeats 4000000 in
theorem jt_X13_no (l : Launch) : jx_Ct l yX13_no (ws_ yX13_no cX13_no 2 (some .int)) 0 0 0 js_X13_no := by
  refine jx_Ct_c (rc := 0) (by decide) rfl (fun D as g M Po hS => ?_)
  unfold js_X13_no at hS
  split at hS
  · rename_i n1 y n2 w
    refine ⟨Nat.le_of_ble_eq_true rfl, ?_⟩
    refine jx_runL (o := jo_X13) (cs := []) (hf := jx_nh) jo_X13_ok jx_cs0 (jx_HK_nil rfl) (fun _ => false) 30 ?_
    simp only [jw, ju, jx_tg, Int.cast_ofNat_Int, Int.reduceAdd, Int.reduceToNat, Nat.reduceAdd, Nat.reduceMul, Nat.reduceBEq, Nat.reduceLeDiff, Int.reduceLE, Int.reduceLT, Int.reduceEq, Int.reduceNeg, Int.reduceSub, Int.reduceMul, not_false_eq_true, true_and, and_true, and_self, Bool.or_false, Bool.false_or, Bool.or_true, Bool.true_or, List.length_nil, List.length_cons, Nat.zero_le, or_true, true_or, Nat.le_refl, ↓reduceIte, Nat.reduceEqDiff, forall_const, false_and, and_false, false_implies, implies_true, not_true_eq_false, or_false, false_or, ne_eq, jd_X13_no, jf_X13]
    exact ⟨by omega, by omega, hS.2⟩
  · exact hS.elim
def js_X13_isAct : jx_Sp := fun as g M Po => match as with
  | [(73, _, y), (0, _, a)] => jx_r a ∧ jx_r (M y 9) ∧ (0 ≤ a ∧ a < M y 9 → Po (0, 0, 1) g M) ∧ (¬ (0 ≤ a ∧ a < M y 9) → Po (0, 0, 0) g M)
  | _ => False
set_option maxHeartbeats 4000000 in
theorem jt_X13_isAct (l : Launch) : jx_Ct l yX13_isAct (ws_ yX13_isAct cX13_isAct 2 (some .boolean)) 0 0 0 js_X13_isAct := by
  refine jx_Ct_c (rc := 4) (by decide) rfl (fun D as g M Po hS => ?_)
  unfold js_X13_isAct at hS
  split at hS
  · rename_i n1 y n2 a
    obtain ⟨h1, h2, h3, h4⟩ := hS
    refine ⟨Nat.le_of_ble_eq_true rfl, ?_⟩
    refine jx_runL (o := jo_X13) (cs := []) (hf := jx_nh) jo_X13_ok jx_cs0 (jx_HK_nil rfl) (fun _ => false) 30 ?_
    simp only [jw, ju, jx_tg, Int.cast_ofNat_Int, Int.reduceAdd, Int.reduceToNat, Nat.reduceAdd, Nat.reduceMul, Nat.reduceBEq, Nat.reduceLeDiff, Int.reduceLE, Int.reduceLT, Int.reduceEq, Int.reduceNeg, Int.reduceSub, Int.reduceMul, not_false_eq_true, true_and, and_true, and_self, Bool.or_false, Bool.false_or, Bool.or_true, Bool.true_or, List.length_nil, List.length_cons, Nat.zero_le, or_true, true_or, Nat.le_refl, ↓reduceIte, Nat.reduceEqDiff, forall_const, false_and, and_false, false_implies, implies_true, not_true_eq_false, or_false, false_or, ne_eq, jd_X13_isAct, jf_X13]
    exact ⟨h1, fun c => h4 (by omega), fun c => ⟨⟨h1, h2⟩, fun c2 => h4 (by omega), fun c2 => h3 (by omega)⟩⟩
  · exact hS.elim
def js_X13_areTurns : jx_Sp := fun as g M Po => match as with
  | [(0, _, d)] => jx_r d ∧ (0 ≤ d ∧ d ≤ 4 → Po (0, 0, 1) g M) ∧ (¬ (0 ≤ d ∧ d ≤ 4) → Po (0, 0, 0) g M)
  | _ => False
def cs_X13_areTurns : jx_Cs := [(412, 3, 0, 0, js_X13_isIn)]
theorem hc_X13_areTurns {D : jx_D} {l : Launch} : jx_CsOK D l "LoopLaneModel" 1 cs_X13_areTurns := List.forall_mem_cons.mpr ⟨jc_X13_137 (jt_X13_isIn l) (fun as g M Po (h : js_X13_isIn as g M Po) => by unfold js_X13_isIn at h; split at h <;> first | exact h.elim | exact rfl) (by decide), fun _ h => absurd h List.not_mem_nil⟩
set_option maxHeartbeats 4000000 in
theorem jt_X13_areTurns (l : Launch) : jx_Ct l yX13_areTurns (ws_ yX13_areTurns cX13_areTurns 1 (some .boolean)) 1 0 0 js_X13_areTurns := by
  refine jx_Ct_c (rc := 4) (by decide) rfl (fun D as g M Po hS => ?_)
  unfold js_X13_areTurns at hS
  split at hS
  · rename_i n1 d
    obtain ⟨h1, h2, h3⟩ := hS
    refine ⟨Nat.le_of_ble_eq_true rfl, ?_⟩
    refine jx_runL (o := jo_X13) (cs := cs_X13_areTurns) (hf := jx_nh) jo_X13_ok hc_X13_areTurns (jx_HK_nil rfl) (fun _ => false) 30 ?_
    simp only [jw, ju, jx_tg, Int.cast_ofNat_Int, Int.reduceAdd, Int.reduceToNat, Nat.reduceAdd, Nat.reduceMul, Nat.reduceBEq, Nat.reduceLeDiff, Int.reduceLE, Int.reduceLT, Int.reduceEq, Int.reduceNeg, Int.reduceSub, Int.reduceMul, not_false_eq_true, true_and, and_true, and_self, Bool.or_false, Bool.false_or, Bool.or_true, Bool.true_or, List.length_nil, List.length_cons, Nat.zero_le, or_true, true_or, Nat.le_refl, ↓reduceIte, Nat.reduceEqDiff, forall_const, false_and, and_false, false_implies, implies_true, not_true_eq_false, or_false, false_or, ne_eq, jd_X13_areTurns, jf_X13, js_X13_isIn, cs_X13_areTurns, jx_ck_c]
    exact ⟨h1, h2, h3⟩
  · exact hS.elim
