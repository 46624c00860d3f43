/-! LoopLane: needBack, needAct, isAct, begin, roundedUp -/
set_option maxRecDepth 100000
def js_X0_needBack : jx_Sp := fun as g M Po => match as with
  | [(60, _, x), (0, _, b)] => jx_r b ∧ (0 ≤ b ∧ b ≤ 4 → Po (3, 0, 0) g M) ∧ (¬ (0 ≤ b ∧ b ≤ 4) → Po (4, 6, x + 58) g M)
  | _ => False
def cs_X0_needBack : jx_Cs := [(1135, 3, 0, 0, js_X0_isIn), (789, 3, 0, 0, js_X0_need)]
theorem hc_X0_needBack {D : jx_D} {l : Launch} : jx_CsOK D l "LoopLane" 1 cs_X0_needBack := List.forall_mem_cons.mpr ⟨jc_X0_378 (jt_X0_isIn l) (fun as g M Po (h : js_X0_isIn as g M Po) => by unfold js_X0_isIn at h; split at h <;> first | exact h.elim | exact rfl) (by decide), List.forall_mem_cons.mpr ⟨jc_X0_263 (jt_X0_need l) (fun as g M Po (h : js_X0_need as g M Po) => by unfold js_X0_need at h; split at h <;> first | exact h.elim | exact ⟨_, _, _, rfl, rfl⟩) (by decide), fun _ h => absurd h List.not_mem_nil⟩⟩
set_option maxHeartbeats 4000000 in
theorem jt_X0_needBack (l : Launch) : jx_Ct l yX0_needBack (ws_ yX0_needBack cX0_needBack 2 none) 1 0 0 js_X0_needBack := by
  refine jx_Ct_c (rc := 3) (by decide) rfl (fun D as g M Po hS => ?_)
  unfold js_X0_needBack at hS
  split at hS
  · rename_i n1 x n2 b
    obtain ⟨rb, hP1, hP2⟩ := hS
    refine ⟨Nat.le_of_ble_eq_true rfl, ?_⟩
    refine jx_runL (o := jo_X0) (cs := cs_X0_needBack) (hf := jx_nh) jo_X0_ok hc_X0_needBack (jx_HK_nil rfl) (fun _ => false) 30 ?_
    simp only [jw, ju, jx_tg, Int.cast_ofNat_Int, Int.reduceAdd, Int.reduceToNat, Nat.reduceAdd, Nat.reduceMul, Nat.reduceBEq, Nat.reduceLeDiff, Int.reduceLE, Int.reduceLT, Int.reduceEq, Int.reduceNeg, Int.reduceSub, Int.reduceMul, not_false_eq_true, true_and, and_true, and_self, Bool.or_false, Bool.false_or, Bool.or_true, Bool.true_or, List.length_nil, List.length_cons, Nat.zero_le, or_true, true_or, Nat.le_refl, ↓reduceIte, Nat.reduceEqDiff, forall_const, false_and, and_false, false_implies, implies_true, not_true_eq_false, or_false, false_or, ne_eq, jd_X0_needBack, jf_X0, js_X0_isIn, js_X0_need, cs_X0_needBack, jx_ck_c]
    refine ⟨rb, fun c => ?_, fun c => ?_⟩
    · exact ⟨by decide, hP1 c⟩
    · have := hP2 c
      rw [show x + 58 = x + 49 - -9 by omega] at this
      exact ⟨by decide, this⟩
  · exact hS.elim
def js_X0_isAct : jx_Sp := fun as g M Po => match as with
  | [(60, _, x), (0, _, a)] => (jx_r a ∧ 0 ≤ M x 5 ∧ M x 5 ≤ 16) ∧ (0 ≤ a ∧ a < M x 5 → Po (0, 0, 1) g M) ∧ (¬ (0 ≤ a ∧ a < M x 5) → Po (0, 0, 0) g M)
  | _ => False
def cs_X0_isAct : jx_Cs := [(1135, 3, 0, 0, js_X0_isIn)]
theorem hc_X0_isAct {D : jx_D} {l : Launch} : jx_CsOK D l "LoopLane" 1 cs_X0_isAct := List.forall_mem_cons.mpr ⟨jc_X0_378 (jt_X0_isIn l) (fun as g M Po (h : js_X0_isIn as g M Po) => by unfold js_X0_isIn at h; split at h <;> first | exact h.elim | exact rfl) (by decide), fun _ h => absurd h List.not_mem_nil⟩
set_option maxHeartbeats 4000000 in
theorem jt_X0_isAct (l : Launch) : jx_Ct l yX0_isAct (ws_ yX0_isAct cX0_isAct 2 (some .boolean)) 1 0 0 js_X0_isAct := by
  refine jx_Ct_c (rc := 4) (by decide) rfl (fun D as g M Po hS => ?_)
  unfold js_X0_isAct at hS
  split at hS
  · rename_i n1 x n2 a
    obtain ⟨⟨ra, h1⟩, hP1, hP2⟩ := hS
    refine ⟨Nat.le_of_ble_eq_true rfl, ?_⟩
    refine jx_runL (o := jo_X0) (cs := cs_X0_isAct) (hf := jx_nh) jo_X0_ok hc_X0_isAct (jx_HK_nil rfl) (fun _ => false) 30 ?_
    simp only [jw, ju, jx_tg, Int.cast_ofNat_Int, Int.reduceAdd, Int.reduceToNat, Nat.reduceAdd, Nat.reduceMul, Nat.reduceBEq, Nat.reduceLeDiff, Int.reduceLE, Int.reduceLT, Int.reduceEq, Int.reduceNeg, Int.reduceSub, Int.reduceMul, not_false_eq_true, true_and, and_true, and_self, Bool.or_false, Bool.false_or, Bool.or_true, Bool.true_or, List.length_nil, List.length_cons, Nat.zero_le, or_true, true_or, Nat.le_refl, ↓reduceIte, Nat.reduceEqDiff, forall_const, false_and, and_false, false_implies, implies_true, not_true_eq_false, or_false, false_or, ne_eq, jd_X0_isAct, jf_X0, js_X0_isIn, cs_X0_isAct, jx_ck_c]
    refine ⟨ra, by omega, fun c => hP1 (by omega), fun c => hP2 (by omega)⟩
  · exact hS.elim
def js_X0_begin : jx_Sp := fun as g M Po => match as with
  | [(60, _, x), (0, _, a)] => (0 ≤ a ∧ a < 16) ∧ Po (0, 0, M x 26 * M (x + 31) a + M (x + 30) a) g M
  | _ => False
set_option maxHeartbeats 4000000 in
theorem jt_X0_begin (l : Launch) : jx_Ct l yX0_begin (ws_ yX0_begin cX0_begin 2 (some .int)) 0 0 0 js_X0_begin := by
  refine jx_Ct_c (rc := 0) (by decide) rfl (fun D as g M Po hS => ?_)
  unfold js_X0_begin at hS
  split at hS
  · rename_i n1 x n2 a
    obtain ⟨h1, hP⟩ := hS
    refine ⟨Nat.le_of_ble_eq_true rfl, ?_⟩
    refine jx_runL (o := jo_X0) (cs := []) (hf := jx_nh) jo_X0_ok jx_cs0 (jx_HK_nil rfl) (fun _ => false) 30 ?_
    simp only [jw, ju, jx_tg, Int.cast_ofNat_Int, Int.reduceAdd, Int.reduceToNat, Nat.reduceAdd, Nat.reduceMul, Nat.reduceBEq, Nat.reduceLeDiff, Int.reduceLE, Int.reduceLT, Int.reduceEq, Int.reduceNeg, Int.reduceSub, Int.reduceMul, not_false_eq_true, true_and, and_true, and_self, Bool.or_false, Bool.false_or, Bool.or_true, Bool.true_or, List.length_nil, List.length_cons, Nat.zero_le, or_true, true_or, Nat.le_refl, ↓reduceIte, Nat.reduceEqDiff, forall_const, false_and, and_false, false_implies, implies_true, not_true_eq_false, or_false, false_or, ne_eq, jd_X0_begin, jf_X0]
    exact ⟨h1, h1, hP⟩
  · exact hS.elim
def js_X0_needAct : jx_Sp := fun as g M Po => match as with
  | [(60, _, x), (0, _, a), (0, _, b)] => (jx_r a ∧ jx_r b ∧ jx_r (M x 5)) ∧ ((0 ≤ a ∧ a ≤ 15) ∧ (0 < b ∨ a < M x 5) → Po (3, 0, 0) g M) ∧ (¬ ((0 ≤ a ∧ a ≤ 15) ∧ (0 < b ∨ a < M x 5)) → Po (4, 6, x + 52) g M)
  | _ => False
def cs_X0_needAct : jx_Cs := [(1135, 3, 0, 0, js_X0_isIn), (789, 3, 0, 0, js_X0_need)]
theorem hc_X0_needAct {D : jx_D} {l : Launch} : jx_CsOK D l "LoopLane" 1 cs_X0_needAct := List.forall_mem_cons.mpr ⟨jc_X0_378 (jt_X0_isIn l) (fun as g M Po (h : js_X0_isIn as g M Po) => by unfold js_X0_isIn at h; split at h <;> first | exact h.elim | exact rfl) (by decide), List.forall_mem_cons.mpr ⟨jc_X0_263 (jt_X0_need l) (fun as g M Po (h : js_X0_need as g M Po) => by unfold js_X0_need at h; split at h <;> first | exact h.elim | exact ⟨_, _, _, rfl, rfl⟩) (by decide), fun _ h => absurd h List.not_mem_nil⟩⟩
set_option maxHeartbeats 4000000 in
theorem jt_X0_needAct (l : Launch) : jx_Ct l yX0_needAct (ws_ yX0_needAct cX0_needAct 3 none) 1 0 0 js_X0_needAct := by
  refine jx_Ct_c (rc := 3) (by decide) rfl (fun D as g M Po hS => ?_)
  unfold js_X0_needAct at hS
  split at hS
  · rename_i n1 x n2 a n3 b
    obtain ⟨⟨ra, rb, rm⟩, hP1, hP2⟩ := hS
    rw [show x + 52 = x + 49 - -3 by omega] at hP2
    refine ⟨Nat.le_of_ble_eq_true rfl, ?_⟩
    have at29 : ¬ ((0 ≤ a ∧ a ≤ 15) ∧ (0 < b ∨ a < M x 5)) → jx_V D l (yX0_needAct.cls, cX0_needAct, 3, 3, [], 1, 0, 0, yX0_needAct.name) Po 29 [(60, n1, x), (0, n2, a), (0, n3, b)] [(60, n1, x)] (0, 0) g M := by
      intro c
      refine jx_runL (o := jo_X0) (cs := cs_X0_needAct) (hf := jx_nh) jo_X0_ok hc_X0_needAct (jx_HK_nil rfl) (fun _ => false) 30 ?_
      simp only [jw, ju, jx_tg, Int.cast_ofNat_Int, Int.reduceAdd, Int.reduceToNat, Nat.reduceAdd, Nat.reduceMul, Nat.reduceBEq, Nat.reduceLeDiff, Int.reduceLE, Int.reduceLT, Int.reduceEq, Int.reduceNeg, Int.reduceSub, Int.reduceMul, not_false_eq_true, true_and, and_true, and_self, Bool.or_false, Bool.false_or, Bool.or_true, Bool.true_or, List.length_nil, List.length_cons, Nat.zero_le, or_true, true_or, Nat.le_refl, ↓reduceIte, Nat.reduceEqDiff, forall_const, false_and, and_false, false_implies, implies_true, not_true_eq_false, or_false, false_or, ne_eq, jd_X0_needAct, jf_X0, js_X0_isIn, js_X0_need, cs_X0_needAct, jx_ck_c]
      exact ⟨by decide, hP2 c⟩
    have at25 : ((0 ≤ a ∧ a ≤ 15) ∧ (0 < b ∨ a < M x 5)) → jx_V D l (yX0_needAct.cls, cX0_needAct, 3, 3, [], 1, 0, 0, yX0_needAct.name) Po 25 [(60, n1, x), (0, n2, a), (0, n3, b)] [(60, n1, x)] (0, 0) g M := by
      intro c
      refine jx_runL (o := jo_X0) (cs := cs_X0_needAct) (hf := jx_nh) jo_X0_ok hc_X0_needAct (jx_HK_nil rfl) (fun _ => false) 30 ?_
      simp only [jw, ju, jx_tg, Int.cast_ofNat_Int, Int.reduceAdd, Int.reduceToNat, Nat.reduceAdd, Nat.reduceMul, Nat.reduceBEq, Nat.reduceLeDiff, Int.reduceLE, Int.reduceLT, Int.reduceEq, Int.reduceNeg, Int.reduceSub, Int.reduceMul, not_false_eq_true, true_and, and_true, and_self, Bool.or_false, Bool.false_or, Bool.or_true, Bool.true_or, List.length_nil, List.length_cons, Nat.zero_le, or_true, true_or, Nat.le_refl, ↓reduceIte, Nat.reduceEqDiff, forall_const, false_and, and_false, false_implies, implies_true, not_true_eq_false, or_false, false_or, ne_eq, jd_X0_needAct, jf_X0, js_X0_isIn, js_X0_need, cs_X0_needAct, jx_ck_c]
      exact ⟨by decide, hP1 c⟩
    refine jx_runL (o := jo_X0) (cs := cs_X0_needAct) (hf := jx_nh) jo_X0_ok hc_X0_needAct (jx_HK_nil rfl) (fun p => p == 25 || p == 29) 30 ?_
    simp only [jw, ju, jx_tg, Int.cast_ofNat_Int, Int.reduceAdd, Int.reduceToNat, Nat.reduceAdd, Nat.reduceMul, Nat.reduceBEq, Nat.reduceLeDiff, Int.reduceLE, Int.reduceLT, Int.reduceEq, Int.reduceNeg, Int.reduceSub, Int.reduceMul, not_false_eq_true, true_and, and_true, and_self, Bool.or_false, Bool.false_or, Bool.or_true, Bool.true_or, List.length_nil, List.length_cons, Nat.zero_le, or_true, true_or, Nat.le_refl, ↓reduceIte, Nat.reduceEqDiff, forall_const, false_and, and_false, false_implies, implies_true, not_true_eq_false, or_false, false_or, ne_eq, jd_X0_needAct, jf_X0, js_X0_isIn, js_X0_need, cs_X0_needAct, jx_ck_c]
    refine ⟨ra, fun c => ⟨rb, fun c2 => at25 ⟨c, .inl c2⟩, fun c2 => ⟨⟨ra, rm⟩, fun c3 => at29 (by omega), fun c3 => at25 ⟨c, .inr (by omega)⟩⟩⟩, fun c => at29 (fun w => c w.1)⟩
  · exact hS.elim
