/-! the acts: sorts, slots, whether they might be refused -/
set_option maxRecDepth 100000
def js_X6_sort : jx_Sp := fun as g M Po => match as with
  | [(66, _, _)] => Po (0, 0, 0) g M
  | _ => False
set_option maxHeartbeats 4000000 in
theorem jt_X6_sort (l : Launch) : jx_Ct l yX6_sort (ws_ yX6_sort cX6_sort 1 (some .int)) 0 0 0 js_X6_sort := by
  refine jx_Ct_c (rc := 0) (by decide) rfl (fun D as g M Po hS => ?_)
  unfold js_X6_sort at hS
  split at hS
  · refine ⟨Nat.le_of_ble_eq_true rfl, ?_⟩
    refine jx_runL (o := jo_X6) (cs := []) (hf := jx_nh) jo_X6_ok jx_cs0 (jx_HK_nil rfl) (fun _ => false) 20 ?_
    simp only [jw, ju, jx_tg, Int.cast_ofNat_Int, Int.reduceAdd, Int.reduceToNat, Nat.reduceAdd, Nat.reduceMul, Nat.reduceBEq, Nat.reduceLeDiff, Int.reduceLE, Int.reduceLT, Int.reduceEq, Int.reduceNeg, Int.reduceSub, Int.reduceMul, not_false_eq_true, true_and, and_true, and_self, Bool.or_false, Bool.false_or, Bool.or_true, Bool.true_or, List.length_nil, List.length_cons, Nat.zero_le, or_true, true_or, Nat.le_refl, ↓reduceIte, Nat.reduceEqDiff, forall_const, false_and, and_false, false_implies, implies_true, not_true_eq_false, or_false, false_or, ne_eq, jd_X6_sort, jf_X6]
    exact hS
  · exact hS.elim
def js_X7_sort : jx_Sp := fun as g M Po => match as with
  | [(67, _, _)] => Po (0, 0, 1) g M
  | [(68, _, _)] => Po (0, 0, 1) g M
  | _ => False
set_option maxHeartbeats 4000000 in
theorem jt_X7_sort (l : Launch) : jx_Ct l yX7_sort (ws_ yX7_sort cX7_sort 1 (some .int)) 0 0 0 js_X7_sort := by
  refine jx_Ct_c (rc := 0) (by decide) rfl (fun D as g M Po hS => ?_)
  unfold js_X7_sort at hS
  split at hS
  · refine ⟨Nat.le_of_ble_eq_true rfl, ?_⟩
    refine jx_runL (o := jo_X7) (cs := []) (hf := jx_nh) jo_X7_ok jx_cs0 (jx_HK_nil rfl) (fun _ => false) 20 ?_
    simp only [jw, ju, jx_tg, Int.cast_ofNat_Int, Int.reduceAdd, Int.reduceToNat, Nat.reduceAdd, Nat.reduceMul, Nat.reduceBEq, Nat.reduceLeDiff, Int.reduceLE, Int.reduceLT, Int.reduceEq, Int.reduceNeg, Int.reduceSub, Int.reduceMul, not_false_eq_true, true_and, and_true, and_self, Bool.or_false, Bool.false_or, Bool.or_true, Bool.true_or, List.length_nil, List.length_cons, Nat.zero_le, or_true, true_or, Nat.le_refl, ↓reduceIte, Nat.reduceEqDiff, forall_const, false_and, and_false, false_implies, implies_true, not_true_eq_false, or_false, false_or, ne_eq, jd_X7_sort]
    exact hS
  · refine ⟨Nat.le_of_ble_eq_true rfl, ?_⟩
    refine jx_runL (o := jo_X7) (cs := []) (hf := jx_nh) jo_X7_ok jx_cs0 (jx_HK_nil rfl) (fun _ => false) 20 ?_
    simp only [jw, ju, jx_tg, Int.cast_ofNat_Int, Int.reduceAdd, Int.reduceToNat, Nat.reduceAdd, Nat.reduceMul, Nat.reduceBEq, Nat.reduceLeDiff, Int.reduceLE, Int.reduceLT, Int.reduceEq, Int.reduceNeg, Int.reduceSub, Int.reduceMul, not_false_eq_true, true_and, and_true, and_self, Bool.or_false, Bool.false_or, Bool.or_true, Bool.true_or, List.length_nil, List.length_cons, Nat.zero_le, or_true, true_or, Nat.le_refl, ↓reduceIte, Nat.reduceEqDiff, forall_const, false_and, and_false, false_implies, implies_true, not_true_eq_false, or_false, false_or, ne_eq, jd_X7_sort]
    exact hS
  · exact hS.elim
def js_X9_sort : jx_Sp := fun as g M Po => match as with
  | [(69, _, _)] => Po (0, 0, 3) g M
  | _ => False
set_option maxHeartbeats 4000000 in
theorem jt_X9_sort (l : Launch) : jx_Ct l yX9_sort (ws_ yX9_sort cX9_sort 1 (some .int)) 0 0 0 js_X9_sort := by
  refine jx_Ct_c (rc := 0) (by decide) rfl (fun D as g M Po hS => ?_)
  unfold js_X9_sort at hS
  split at hS
  · refine ⟨Nat.le_of_ble_eq_true rfl, ?_⟩
    refine jx_runL (o := jo_X9) (cs := []) (hf := jx_nh) jo_X9_ok jx_cs0 (jx_HK_nil rfl) (fun _ => false) 20 ?_
    simp only [jw, ju, jx_tg, Int.cast_ofNat_Int, Int.reduceAdd, Int.reduceToNat, Nat.reduceAdd, Nat.reduceMul, Nat.reduceBEq, Nat.reduceLeDiff, Int.reduceLE, Int.reduceLT, Int.reduceEq, Int.reduceNeg, Int.reduceSub, Int.reduceMul, not_false_eq_true, true_and, and_true, and_self, Bool.or_false, Bool.false_or, Bool.or_true, Bool.true_or, List.length_nil, List.length_cons, Nat.zero_le, or_true, true_or, Nat.le_refl, ↓reduceIte, Nat.reduceEqDiff, forall_const, false_and, and_false, false_implies, implies_true, not_true_eq_false, or_false, false_or, ne_eq, jd_X9_sort]
    exact hS
  · exact hS.elim
def js_X10_sort : jx_Sp := fun as g M Po => match as with
  | [(70, _, _)] => Po (0, 0, 4) g M
  | [(71, _, _)] => Po (0, 0, 4) g M
  | _ => False
set_option maxHeartbeats 4000000 in
theorem jt_X10_sort (l : Launch) : jx_Ct l yX10_sort (ws_ yX10_sort cX10_sort 1 (some .int)) 0 0 0 js_X10_sort := by
  refine jx_Ct_c (rc := 0) (by decide) rfl (fun D as g M Po hS => ?_)
  unfold js_X10_sort at hS
  split at hS
  · refine ⟨Nat.le_of_ble_eq_true rfl, ?_⟩
    refine jx_runL (o := jo_X10) (cs := []) (hf := jx_nh) jo_X10_ok jx_cs0 (jx_HK_nil rfl) (fun _ => false) 20 ?_
    simp only [jw, ju, jx_tg, Int.cast_ofNat_Int, Int.reduceAdd, Int.reduceToNat, Nat.reduceAdd, Nat.reduceMul, Nat.reduceBEq, Nat.reduceLeDiff, Int.reduceLE, Int.reduceLT, Int.reduceEq, Int.reduceNeg, Int.reduceSub, Int.reduceMul, not_false_eq_true, true_and, and_true, and_self, Bool.or_false, Bool.false_or, Bool.or_true, Bool.true_or, List.length_nil, List.length_cons, Nat.zero_le, or_true, true_or, Nat.le_refl, ↓reduceIte, Nat.reduceEqDiff, forall_const, false_and, and_false, false_implies, implies_true, not_true_eq_false, or_false, false_or, ne_eq, jd_X10_sort, jf_X10]
    exact hS
  · refine ⟨Nat.le_of_ble_eq_true rfl, ?_⟩
    refine jx_runL (o := jo_X10) (cs := []) (hf := jx_nh) jo_X10_ok jx_cs0 (jx_HK_nil rfl) (fun _ => false) 20 ?_
    simp only [jw, ju, jx_tg, Int.cast_ofNat_Int, Int.reduceAdd, Int.reduceToNat, Nat.reduceAdd, Nat.reduceMul, Nat.reduceBEq, Nat.reduceLeDiff, Int.reduceLE, Int.reduceLT, Int.reduceEq, Int.reduceNeg, Int.reduceSub, Int.reduceMul, not_false_eq_true, true_and, and_true, and_self, Bool.or_false, Bool.false_or, Bool.or_true, Bool.true_or, List.length_nil, List.length_cons, Nat.zero_le, or_true, true_or, Nat.le_refl, ↓reduceIte, Nat.reduceEqDiff, forall_const, false_and, and_false, false_implies, implies_true, not_true_eq_false, or_false, false_or, ne_eq, jd_X10_sort, jf_X10]
    exact hS
  · exact hS.elim
def js_X12_sort : jx_Sp := fun as g M Po => match as with
  | [(72, _, _)] => Po (0, 0, 6) g M
  | _ => False
set_option maxHeartbeats 4000000 in
theorem jt_X12_sort (l : Launch) : jx_Ct l yX12_sort (ws_ yX12_sort cX12_sort 1 (some .int)) 0 0 0 js_X12_sort := by
  refine jx_Ct_c (rc := 0) (by decide) rfl (fun D as g M Po hS => ?_)
  unfold js_X12_sort at hS
  split at hS
  · refine ⟨Nat.le_of_ble_eq_true rfl, ?_⟩
    refine jx_runL (o := jo_X12) (cs := []) (hf := jx_nh) jo_X12_ok jx_cs0 (jx_HK_nil rfl) (fun _ => false) 20 ?_
    simp only [jw, ju, jx_tg, Int.cast_ofNat_Int, Int.reduceAdd, Int.reduceToNat, Nat.reduceAdd, Nat.reduceMul, Nat.reduceBEq, Nat.reduceLeDiff, Int.reduceLE, Int.reduceLT, Int.reduceEq, Int.reduceNeg, Int.reduceSub, Int.reduceMul, not_false_eq_true, true_and, and_true, and_self, Bool.or_false, Bool.false_or, Bool.or_true, Bool.true_or, List.length_nil, List.length_cons, Nat.zero_le, or_true, true_or, Nat.le_refl, ↓reduceIte, Nat.reduceEqDiff, forall_const, false_and, and_false, false_implies, implies_true, not_true_eq_false, or_false, false_or, ne_eq, jd_X12_sort]
    exact hS
  · exact hS.elim
def js_X5_slot : jx_Sp := fun as g M Po => match as with
  | [(80, _, _)] => Po (0, 0, -1) g M
  | _ => False
set_option maxHeartbeats 4000000 in
theorem jt_X5_slot (l : Launch) : jx_Ct l yX5_slot (ws_ yX5_slot cX5_slot 1 (some .int)) 0 0 0 js_X5_slot := by
  refine jx_Ct_c (rc := 0) (by decide) rfl (fun D as g M Po hS => ?_)
  unfold js_X5_slot at hS
  split at hS
  · refine ⟨Nat.le_of_ble_eq_true rfl, ?_⟩
    refine jx_runL (o := jo_X5) (cs := []) (hf := jx_nh) jo_X5_ok jx_cs0 (jx_HK_nil rfl) (fun _ => false) 20 ?_
    simp only [jw, ju, jx_tg, Int.cast_ofNat_Int, Int.reduceAdd, Int.reduceToNat, Nat.reduceAdd, Nat.reduceMul, Nat.reduceBEq, Nat.reduceLeDiff, Int.reduceLE, Int.reduceLT, Int.reduceEq, Int.reduceNeg, Int.reduceSub, Int.reduceMul, not_false_eq_true, true_and, and_true, and_self, Bool.or_false, Bool.false_or, Bool.or_true, Bool.true_or, List.length_nil, List.length_cons, Nat.zero_le, or_true, true_or, Nat.le_refl, ↓reduceIte, Nat.reduceEqDiff, forall_const, false_and, and_false, false_implies, implies_true, not_true_eq_false, or_false, false_or, ne_eq, jd_X5_slot, jf_X5]
    exact hS
  · exact hS.elim
def js_X5_isRefused : jx_Sp := fun as g M Po => match as with
  | [(80, _, _)] => Po (0, 0, 0) g M
  | _ => False
set_option maxHeartbeats 4000000 in
theorem jt_X5_isRefused (l : Launch) : jx_Ct l yX5_isRefused (ws_ yX5_isRefused cX5_isRefused 1 (some .boolean)) 0 0 0 js_X5_isRefused := by
  refine jx_Ct_c (rc := 4) (by decide) rfl (fun D as g M Po hS => ?_)
  unfold js_X5_isRefused at hS
  split at hS
  · refine ⟨Nat.le_of_ble_eq_true rfl, ?_⟩
    refine jx_runL (o := jo_X5) (cs := []) (hf := jx_nh) jo_X5_ok jx_cs0 (jx_HK_nil rfl) (fun _ => false) 20 ?_
    simp only [jw, ju, jx_tg, Int.cast_ofNat_Int, Int.reduceAdd, Int.reduceToNat, Nat.reduceAdd, Nat.reduceMul, Nat.reduceBEq, Nat.reduceLeDiff, Int.reduceLE, Int.reduceLT, Int.reduceEq, Int.reduceNeg, Int.reduceSub, Int.reduceMul, not_false_eq_true, true_and, and_true, and_self, Bool.or_false, Bool.false_or, Bool.or_true, Bool.true_or, List.length_nil, List.length_cons, Nat.zero_le, or_true, true_or, Nat.le_refl, ↓reduceIte, Nat.reduceEqDiff, forall_const, false_and, and_false, false_implies, implies_true, not_true_eq_false, or_false, false_or, ne_eq, jd_X5_isRefused, jf_X5]
    exact hS
  · exact hS.elim
def js_X9_isRefused : jx_Sp := fun as g M Po => match as with
  | [(69, _, _)] => Po (0, 0, 1) g M
  | _ => False
set_option maxHeartbeats 4000000 in
theorem jt_X9_isRefused (l : Launch) : jx_Ct l yX9_isRefused (ws_ yX9_isRefused cX9_isRefused 1 (some .boolean)) 0 0 0 js_X9_isRefused := by
  refine jx_Ct_c (rc := 4) (by decide) rfl (fun D as g M Po hS => ?_)
  unfold js_X9_isRefused at hS
  split at hS
  · refine ⟨Nat.le_of_ble_eq_true rfl, ?_⟩
    refine jx_runL (o := jo_X9) (cs := []) (hf := jx_nh) jo_X9_ok jx_cs0 (jx_HK_nil rfl) (fun _ => false) 20 ?_
    simp only [jw, ju, jx_tg, Int.cast_ofNat_Int, Int.reduceAdd, Int.reduceToNat, Nat.reduceAdd, Nat.reduceMul, Nat.reduceBEq, Nat.reduceLeDiff, Int.reduceLE, Int.reduceLT, Int.reduceEq, Int.reduceNeg, Int.reduceSub, Int.reduceMul, not_false_eq_true, true_and, and_true, and_self, Bool.or_false, Bool.false_or, Bool.or_true, Bool.true_or, List.length_nil, List.length_cons, Nat.zero_le, or_true, true_or, Nat.le_refl, ↓reduceIte, Nat.reduceEqDiff, forall_const, false_and, and_false, false_implies, implies_true, not_true_eq_false, or_false, false_or, ne_eq, jd_X9_isRefused]
    exact hS
  · exact hS.elim
def js_X10_isRefused : jx_Sp := fun as g M Po => match as with
  | [(81, _, _)] => Po (0, 0, 1) g M
  | _ => False
set_option maxHeartbeats 4000000 in
theorem jt_X10_isRefused (l : Launch) : jx_Ct l yX10_isRefused (ws_ yX10_isRefused cX10_isRefused 1 (some .boolean)) 0 0 0 js_X10_isRefused := by
  refine jx_Ct_c (rc := 4) (by decide) rfl (fun D as g M Po hS => ?_)
  unfold js_X10_isRefused at hS
  split at hS
  · refine ⟨Nat.le_of_ble_eq_true rfl, ?_⟩
    refine jx_runL (o := jo_X10) (cs := []) (hf := jx_nh) jo_X10_ok jx_cs0 (jx_HK_nil rfl) (fun _ => false) 20 ?_
    simp only [jw, ju, jx_tg, Int.cast_ofNat_Int, Int.reduceAdd, Int.reduceToNat, Nat.reduceAdd, Nat.reduceMul, Nat.reduceBEq, Nat.reduceLeDiff, Int.reduceLE, Int.reduceLT, Int.reduceEq, Int.reduceNeg, Int.reduceSub, Int.reduceMul, not_false_eq_true, true_and, and_true, and_self, Bool.or_false, Bool.false_or, Bool.or_true, Bool.true_or, List.length_nil, List.length_cons, Nat.zero_le, or_true, true_or, Nat.le_refl, ↓reduceIte, Nat.reduceEqDiff, forall_const, false_and, and_false, false_implies, implies_true, not_true_eq_false, or_false, false_or, ne_eq, jd_X10_isRefused, jf_X10]
    exact hS
  · exact hS.elim
def js_X10_slot : jx_Sp := fun as g M Po => match as with
  | [(81, _, a)] => Po (0, 0, M a 7) g M
  | _ => False
set_option maxHeartbeats 4000000 in
theorem jt_X10_slot (l : Launch) : jx_Ct l yX10_slot (ws_ yX10_slot cX10_slot 1 (some .int)) 0 0 0 js_X10_slot := by
  refine jx_Ct_c (rc := 0) (by decide) rfl (fun D as g M Po hS => ?_)
  unfold js_X10_slot at hS
  split at hS
  · refine ⟨Nat.le_of_ble_eq_true rfl, ?_⟩
    refine jx_runL (o := jo_X10) (cs := []) (hf := jx_nh) jo_X10_ok jx_cs0 (jx_HK_nil rfl) (fun _ => false) 20 ?_
    simp only [jw, ju, jx_tg, Int.cast_ofNat_Int, Int.reduceAdd, Int.reduceToNat, Nat.reduceAdd, Nat.reduceMul, Nat.reduceBEq, Nat.reduceLeDiff, Int.reduceLE, Int.reduceLT, Int.reduceEq, Int.reduceNeg, Int.reduceSub, Int.reduceMul, not_false_eq_true, true_and, and_true, and_self, Bool.or_false, Bool.false_or, Bool.or_true, Bool.true_or, List.length_nil, List.length_cons, Nat.zero_le, or_true, true_or, Nat.le_refl, ↓reduceIte, Nat.reduceEqDiff, forall_const, false_and, and_false, false_implies, implies_true, not_true_eq_false, or_false, false_or, ne_eq, jd_X10_slot, jf_X10]
    exact hS
  · exact hS.elim
def f_place (x : Int) : Int := if x < 0 ∨ 40 < x then -1 else x
def js_X10_place : jx_Sp := fun as g M Po => match as with
  | [(1, _, x)] => Po (0, 0, f_place x) g M
  | _ => False
set_option maxHeartbeats 4000000 in
theorem jt_X10_place (l : Launch) : jx_Ct l yX10_place (ws_ yX10_place cX10_place 2 (some .int)) 0 0 0 js_X10_place := by
  refine jx_Ct_c (rc := 0) (by decide) rfl (fun D as g M Po hS => ?_)
  unfold js_X10_place at hS
  split at hS
  · rename_i n1 x
    refine ⟨Nat.le_of_ble_eq_true rfl, ?_⟩
    refine jx_runL (o := jo_X10) (cs := []) (hf := jx_nh) jo_X10_ok jx_cs0 (jx_HK_nil rfl) (fun _ => false) 30 ?_
    simp only [jw, ju, jx_tg, Int.cast_ofNat_Int, Int.reduceAdd, Int.reduceToNat, Nat.reduceAdd, Nat.reduceMul, Nat.reduceBEq, Nat.reduceLeDiff, Int.reduceLE, Int.reduceLT, Int.reduceEq, Int.reduceNeg, Int.reduceSub, Int.reduceMul, not_false_eq_true, true_and, and_true, and_self, Bool.or_false, Bool.false_or, Bool.or_true, Bool.true_or, List.length_nil, List.length_cons, Nat.zero_le, or_true, true_or, Nat.le_refl, ↓reduceIte, Nat.reduceEqDiff, forall_const, false_and, and_false, false_implies, implies_true, not_true_eq_false, or_false, false_or, ne_eq, jd_X10_place, jf_X10, jx_cmp_lt, jx_cmp_le]
    have h1 := @jx_cmp_r x 0
    have h2 := @jx_cmp_r x 40
    unfold f_place at hS
    refine ⟨by omega, fun c => ?_, fun c => ⟨by omega, fun c2 => ?_, fun c2 => ?_⟩⟩
    · rw [if_pos (by omega)] at hS
      exact hS
    · rw [if_neg (by omega)] at hS
      exact hS
    · rw [if_pos (by omega)] at hS
      exact hS
  · exact hS.elim
def js_X5_bits : jx_Sp := fun as g M Po => match as with
  | [(80, _, a)] => (0 ≤ M a 2 ∧ M a 2 ≤ 255) ∧ Po (0, 0, mm_bits (M a 2) 8) g M
  | _ => False
def cs_X5_bits : jx_Cs := [(106, 1, 0, 0, js_J9_bitCount)]
theorem hc_X5_bits {D : jx_D} {l : Launch} : jx_CsOK D l "LoopLane$Act" 1 cs_X5_bits := List.forall_mem_cons.mpr ⟨jc_X5_35 (jt_J9_bitCount l) (fun as g M Po (h : js_J9_bitCount as g M Po) => by unfold js_J9_bitCount at h; split at h <;> first | exact h.elim | exact rfl) (by decide), fun _ h => absurd h List.not_mem_nil⟩
set_option maxHeartbeats 4000000 in
theorem jt_X5_bits (l : Launch) : jx_Ct l yX5_bits (ws_ yX5_bits cX5_bits 1 (some .int)) 1 0 0 js_X5_bits := by
  refine jx_Ct_c (rc := 0) (by decide) rfl (fun D as g M Po hS => ?_)
  unfold js_X5_bits at hS
  split at hS
  · refine ⟨Nat.le_of_ble_eq_true rfl, ?_⟩
    refine jx_runL (o := jo_X5) (cs := cs_X5_bits) (hf := jx_nh) jo_X5_ok hc_X5_bits (jx_HK_nil rfl) (fun _ => false) 20 ?_
    simp only [jw, ju, jx_tg, Int.cast_ofNat_Int, Int.reduceAdd, Int.reduceToNat, Nat.reduceAdd, Nat.reduceMul, Nat.reduceBEq, Nat.reduceLeDiff, Int.reduceLE, Int.reduceLT, Int.reduceEq, Int.reduceNeg, Int.reduceSub, Int.reduceMul, not_false_eq_true, true_and, and_true, and_self, Bool.or_false, Bool.false_or, Bool.or_true, Bool.true_or, List.length_nil, List.length_cons, Nat.zero_le, or_true, true_or, Nat.le_refl, ↓reduceIte, Nat.reduceEqDiff, forall_const, false_and, and_false, false_implies, implies_true, not_true_eq_false, or_false, false_or, ne_eq, jd_X5_bits, jf_X5, js_J9_bitCount, cs_X5_bits, jx_ck_c]
    exact hS
  · exact hS.elim
def js_X5_begin : jx_Sp := fun as g M Po => match as with
  | [(80, _, a), (0, _, n)] => Po (3, 0, 0) g (jx_u (jx_u (jx_u (jx_u (jx_u M a 0 1) a 1 0) a 2 1) a 3 0) a 4 n)
  | _ => False
set_option maxHeartbeats 4000000 in
theorem jt_X5_begin (l : Launch) : jx_Ct l yX5_begin (ws_ yX5_begin cX5_begin 2 none) 0 0 0 js_X5_begin := by
  refine jx_Ct_c (rc := 3) (by decide) rfl (fun D as g M Po hS => ?_)
  unfold js_X5_begin at hS
  split at hS
  · refine ⟨Nat.le_of_ble_eq_true rfl, ?_⟩
    refine jx_runL (o := jo_X5) (cs := []) (hf := jx_nh) jo_X5_ok jx_cs0 (jx_HK_nil rfl) (fun _ => false) 40 ?_
    simp only [jw, ju, jx_tg, Int.cast_ofNat_Int, Int.reduceAdd, Int.reduceToNat, Nat.reduceAdd, Nat.reduceMul, Nat.reduceBEq, Nat.reduceLeDiff, Int.reduceLE, Int.reduceLT, Int.reduceEq, Int.reduceNeg, Int.reduceSub, Int.reduceMul, not_false_eq_true, true_and, and_true, and_self, Bool.or_false, Bool.false_or, Bool.or_true, Bool.true_or, List.length_nil, List.length_cons, Nat.zero_le, or_true, true_or, Nat.le_refl, ↓reduceIte, Nat.reduceEqDiff, forall_const, false_and, and_false, false_implies, implies_true, not_true_eq_false, or_false, false_or, ne_eq, jd_X5_begin, jf_X5]
    exact hS
  · exact hS.elim
def js_X5_take : jx_Sp := fun as g M Po => match as with
  | [(80, _, a), (0, _, i), (0, _, x), (0, _, t)] => (0 ≤ i ∧ i < 3) ∧ Po (3, 0, 0) g (jx_u (jx_u M (a + 1) i x) (a + 2) i t)
  | _ => False
set_option maxHeartbeats 4000000 in
theorem jt_X5_take (l : Launch) : jx_Ct l yX5_take (ws_ yX5_take cX5_take 4 none) 0 0 0 js_X5_take := by
  refine jx_Ct_c (rc := 3) (by decide) rfl (fun D as g M Po hS => ?_)
  unfold js_X5_take at hS
  split at hS
  · refine ⟨Nat.le_of_ble_eq_true rfl, ?_⟩
    obtain ⟨h1, hP⟩ := hS
    refine jx_runL (o := jo_X5) (cs := []) (hf := jx_nh) jo_X5_ok jx_cs0 (jx_HK_nil rfl) (fun _ => false) 40 ?_
    simp only [jw, ju, jx_tg, Int.cast_ofNat_Int, Int.reduceAdd, Int.reduceToNat, Nat.reduceAdd, Nat.reduceMul, Nat.reduceBEq, Nat.reduceLeDiff, Int.reduceLE, Int.reduceLT, Int.reduceEq, Int.reduceNeg, Int.reduceSub, Int.reduceMul, not_false_eq_true, true_and, and_true, and_self, Bool.or_false, Bool.false_or, Bool.or_true, Bool.true_or, List.length_nil, List.length_cons, Nat.zero_le, or_true, true_or, Nat.le_refl, ↓reduceIte, Nat.reduceEqDiff, forall_const, false_and, and_false, false_implies, implies_true, not_true_eq_false, or_false, false_or, ne_eq, jd_X5_take, jf_X5]
    exact ⟨h1, h1, hP⟩
  · exact hS.elim
