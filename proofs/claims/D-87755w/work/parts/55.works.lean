/-! the acts' work: Put, Sum, Times, Over, Pick -/
set_option maxRecDepth 100000
def js_X6_work : jx_Sp := fun as g M Po => match as with
  | [(66, _, a), (61, _, _), (1, _, _), (1, _, _), (1, _, _)] => Po (1, 0, M a 7) g M
  | _ => False
set_option maxHeartbeats 4000000 in
theorem jt_X6_work (l : Launch) : jx_Ct l yX6_work (ws_ yX6_work cX6_work 8 (some .long)) 0 0 0 js_X6_work := by
  refine jx_Ct_c (rc := 1) (by decide) rfl (fun D as g M Po hS => ?_)
  unfold js_X6_work at hS
  split at hS
  · refine ⟨Nat.le_of_ble_eq_true rfl, ?_⟩
    refine jx_runL (o := jo_X6) (cs := []) (hf := jx_nh) jo_X6_ok jx_cs0 (jx_HK_nil rfl) (fun _ => false) 20 ?_
    simp only [jw, ju, jx_tg, Int.cast_ofNat_Int, Int.reduceAdd, Int.reduceToNat, Nat.reduceAdd, Nat.reduceMul, Nat.reduceBEq, Nat.reduceLeDiff, Int.reduceLE, Int.reduceLT, Int.reduceEq, Int.reduceNeg, Int.reduceSub, Int.reduceMul, not_false_eq_true, true_and, and_true, and_self, Bool.or_false, Bool.false_or, Bool.or_true, Bool.true_or, List.length_nil, List.length_cons, Nat.zero_le, or_true, true_or, Nat.le_refl, ↓reduceIte, Nat.reduceEqDiff, forall_const, false_and, and_false, false_implies, implies_true, not_true_eq_false, or_false, false_or, ne_eq, jd_X6_work, jf_X6]
    exact hS
  · exact hS.elim
def js_X7_work : jx_Sp := fun as g M Po => match as with
  | [(67, _, _), (61, _, _), (1, _, p), (1, _, q), (1, _, _)] => Po (1, 0, jx_ladd p q) g M
  | _ => False
set_option maxHeartbeats 4000000 in
theorem jt_X7_work (l : Launch) : jx_Ct l yX7_work (ws_ yX7_work cX7_work 8 (some .long)) 0 0 0 js_X7_work := by
  refine jx_Ct_c (rc := 1) (by decide) rfl (fun D as g M Po hS => ?_)
  unfold js_X7_work at hS
  split at hS
  · refine ⟨Nat.le_of_ble_eq_true rfl, ?_⟩
    refine jx_runL (o := jo_X7) (cs := []) (hf := jx_nh) jo_X7_ok jx_cs0 (jx_HK_nil rfl) (fun _ => false) 20 ?_
    simp only [jw, ju, jx_tg, Int.cast_ofNat_Int, Int.reduceAdd, Int.reduceToNat, Nat.reduceAdd, Nat.reduceMul, Nat.reduceBEq, Nat.reduceLeDiff, Int.reduceLE, Int.reduceLT, Int.reduceEq, Int.reduceNeg, Int.reduceSub, Int.reduceMul, not_false_eq_true, true_and, and_true, and_self, Bool.or_false, Bool.false_or, Bool.or_true, Bool.true_or, List.length_nil, List.length_cons, Nat.zero_le, or_true, true_or, Nat.le_refl, ↓reduceIte, Nat.reduceEqDiff, forall_const, false_and, and_false, false_implies, implies_true, not_true_eq_false, or_false, false_or, ne_eq, jd_X7_work]
    exact hS
  · exact hS.elim
def js_X8_work : jx_Sp := fun as g M Po => match as with
  | [(68, _, _), (61, _, _), (1, _, p), (1, _, q), (1, _, _)] => Po (1, 0, jx_lmul p q) g M
  | _ => False
set_option maxHeartbeats 4000000 in
theorem jt_X8_work (l : Launch) : jx_Ct l yX8_work (ws_ yX8_work cX8_work 8 (some .long)) 0 0 0 js_X8_work := by
  refine jx_Ct_c (rc := 1) (by decide) rfl (fun D as g M Po hS => ?_)
  unfold js_X8_work at hS
  split at hS
  · refine ⟨Nat.le_of_ble_eq_true rfl, ?_⟩
    refine jx_runL (o := jo_X8) (cs := []) (hf := jx_nh) jo_X8_ok jx_cs0 (jx_HK_nil rfl) (fun _ => false) 20 ?_
    simp only [jw, ju, jx_tg, Int.cast_ofNat_Int, Int.reduceAdd, Int.reduceToNat, Nat.reduceAdd, Nat.reduceMul, Nat.reduceBEq, Nat.reduceLeDiff, Int.reduceLE, Int.reduceLT, Int.reduceEq, Int.reduceNeg, Int.reduceSub, Int.reduceMul, not_false_eq_true, true_and, and_true, and_self, Bool.or_false, Bool.false_or, Bool.or_true, Bool.true_or, List.length_nil, List.length_cons, Nat.zero_le, or_true, true_or, Nat.le_refl, ↓reduceIte, Nat.reduceEqDiff, forall_const, false_and, and_false, false_implies, implies_true, not_true_eq_false, or_false, false_or, ne_eq, jd_X8_work]
    exact hS
  · exact hS.elim
def js_X9_work : jx_Sp := fun as g M Po => match as with
  | [(69, _, _), (61, _, _), (1, _, p), (1, _, q), (1, _, _)] => (q ≠ 0 → Po (1, 0, jx_ldiv p q) g M) ∧ (q = 0 → Po (4, 4, (g.1 : Int) + 2) (g.1 + 3, g.2) M)
  | _ => False
set_option maxHeartbeats 4000000 in
theorem jt_X9_work (l : Launch) : jx_Ct l yX9_work (ws_ yX9_work cX9_work 8 (some .long)) 0 3 2000 js_X9_work := by
  refine jx_Ct_c (rc := 1) (by decide) rfl (fun D as g M Po hS => ?_)
  unfold js_X9_work at hS
  split at hS
  · rename_i n1 a n2 x n3 p n4 q n5 r
    refine ⟨Nat.le_of_ble_eq_true rfl, ?_⟩
    refine jx_runL (o := jo_X9) (cs := []) (hf := jx_nh) jo_X9_ok jx_cs0 (jx_HK_nil rfl) (fun p => p == 3) 20 ?_
    simp only [jw, ju, jx_tg, Int.cast_ofNat_Int, Int.reduceAdd, Int.reduceToNat, Nat.reduceAdd, Nat.reduceMul, Nat.reduceBEq, Nat.reduceLeDiff, Int.reduceLE, Int.reduceLT, Int.reduceEq, Int.reduceNeg, Int.reduceSub, Int.reduceMul, not_false_eq_true, true_and, and_true, and_self, Bool.or_false, Bool.false_or, Bool.or_true, Bool.true_or, List.length_nil, List.length_cons, Nat.zero_le, or_true, true_or, Nat.le_refl, ↓reduceIte, Nat.reduceEqDiff, forall_const, false_and, and_false, false_implies, implies_true, not_true_eq_false, or_false, false_or, ne_eq, jd_X9_work]
    by_cases c : q = 0
    · have hP := hS.2 c
      subst c
      refine jx_s_msg (x := 4) (hf := jx_nh) (jx_HK_nil rfl) jx_xg4 (jx_t_ldiv (by decide +kernel)) (by decide) ⟨by decide, by decide⟩ ?_
      exact hP
    · refine jx_runL (o := jo_X9) (cs := []) (hf := jx_nh) jo_X9_ok jx_cs0 (jx_HK_nil rfl) (fun _ => false) 20 ?_
      simp only [jw, ju, jx_tg, Int.cast_ofNat_Int, Int.reduceAdd, Int.reduceToNat, Nat.reduceAdd, Nat.reduceMul, Nat.reduceBEq, Nat.reduceLeDiff, Int.reduceLE, Int.reduceLT, Int.reduceEq, Int.reduceNeg, Int.reduceSub, Int.reduceMul, not_false_eq_true, true_and, and_true, and_self, Bool.or_false, Bool.false_or, Bool.or_true, Bool.true_or, List.length_nil, List.length_cons, Nat.zero_le, or_true, true_or, Nat.le_refl, ↓reduceIte, Nat.reduceEqDiff, forall_const, false_and, and_false, false_implies, implies_true, not_true_eq_false, or_false, false_or, ne_eq, jd_X9_work]
      exact ⟨c, hS.1 c⟩
  · exact hS.elim
def js_X12_work : jx_Sp := fun as g M Po => match as with
  | [(72, _, _), (61, _, _), (1, _, p), (1, _, q), (1, _, r)] => (p ≠ 0 → Po (1, 0, q) g M) ∧ (p = 0 → Po (1, 0, r) g M)
  | _ => False
set_option maxHeartbeats 4000000 in
theorem jt_X12_work (l : Launch) : jx_Ct l yX12_work (ws_ yX12_work cX12_work 8 (some .long)) 0 0 0 js_X12_work := by
  refine jx_Ct_c (rc := 1) (by decide) rfl (fun D as g M Po hS => ?_)
  unfold js_X12_work at hS
  split at hS
  · rename_i n1 a n2 x n3 p n4 q n5 r
    refine ⟨Nat.le_of_ble_eq_true rfl, ?_⟩
    refine jx_runL (o := jo_X12) (cs := []) (hf := jx_nh) jo_X12_ok jx_cs0 (jx_HK_nil rfl) (fun _ => false) 20 ?_
    simp only [jw, ju, jx_tg, Int.cast_ofNat_Int, Int.reduceAdd, Int.reduceToNat, Nat.reduceAdd, Nat.reduceMul, Nat.reduceBEq, Nat.reduceLeDiff, Int.reduceLE, Int.reduceLT, Int.reduceEq, Int.reduceNeg, Int.reduceSub, Int.reduceMul, not_false_eq_true, true_and, and_true, and_self, Bool.or_false, Bool.false_or, Bool.or_true, Bool.true_or, List.length_nil, List.length_cons, Nat.zero_le, or_true, true_or, Nat.le_refl, ↓reduceIte, Nat.reduceEqDiff, forall_const, false_and, and_false, false_implies, implies_true, not_true_eq_false, or_false, false_or, ne_eq, jd_X12_work, jx_cmp_eq]
    have h1 := @jx_cmp_r p 0
    refine ⟨by omega, fun c => hS.2 c, fun c => hS.1 c⟩
  · exact hS.elim
