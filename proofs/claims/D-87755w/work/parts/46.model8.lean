/-! the reference, 8: act, told, whole, rows -/
set_option maxRecDepth 100000
def js_X13_act : jx_Sp := fun as g M Po => match as with
  | [(73, _, y), (0, _, a), (0, _, w)] => ((0 ≤ M y 9 ∧ M y 9 ≤ 16) ∧ jx_r a ∧ jx_r w) ∧ mK y g M Po 0 (f_act a w (mY M y)).1 (f_act a w (mY M y)).2
  | _ => False
def cs_X13_act : jx_Cs := [(477, 2, 0, 0, js_X13_isAct), (412, 3, 0, 0, js_X13_isIn), (372, 2, 0, 0, js_X13_no)]
theorem hc_X13_act {D : jx_D} {l : Launch} : jx_CsOK D l "LoopLaneModel" 3 cs_X13_act := List.forall_mem_cons.mpr ⟨jc_X13_159 (jt_X13_isAct l) (fun as g M Po (h : js_X13_isAct as g M Po) => by unfold js_X13_isAct at h; split at h <;> first | exact h.elim | exact ⟨_, _, _, rfl, rfl⟩) (by decide), List.forall_mem_cons.mpr ⟨jc_X13_137 (jt_X13_isIn l) (fun as g M Po (h : js_X13_isIn as g M Po) => by unfold js_X13_isIn at h; split at h <;> first | exact h.elim | exact rfl) (by decide), List.forall_mem_cons.mpr ⟨jc_X13_124 (jt_X13_no l) (fun as g M Po (h : js_X13_no as g M Po) => by unfold js_X13_no at h; split at h <;> first | exact h.elim | exact ⟨_, _, _, rfl, rfl⟩) (by decide), fun _ h => absurd h List.not_mem_nil⟩⟩⟩
set_option maxHeartbeats 4000000 in
theorem jt_X13_act (l : Launch) : jx_Ct l yX13_act (ws_ yX13_act cX13_act 4 (some .int)) 3 0 0 js_X13_act := by
  refine jx_Ct_c (rc := 0) (by decide) rfl (fun D as g M Po hS => ?_)
  unfold js_X13_act at hS
  split at hS
  · rename_i n1 y n2 a n3 w
    obtain ⟨⟨h1, r1, r2⟩, hK⟩ := hS
    unfold f_act at hK
    simp only [mK_ite, mno] at hK
    simp only [mm_isa] at hK
    try simp only [mY_0] at hK
    try simp only [mY_j] at hK
    refine ⟨Nat.le_of_ble_eq_true rfl, ?_⟩
    refine jx_runL (o := jo_X13) (cs := cs_X13_act) (hf := jx_nh) jo_X13_ok hc_X13_act (jx_HK_nil rfl) (fun p => p == 35) 60 ?_
    simp only [jw, ju, jx_tg, Int.cast_ofNat_Int, Int.reduceAdd, Int.reduceToNat, Nat.reduceAdd, Nat.reduceMul, Nat.reduceBEq, Nat.reduceLeDiff, Int.reduceLE, Int.reduceLT, Int.reduceEq, Int.reduceNeg, Int.reduceSub, Int.reduceMul, not_false_eq_true, true_and, and_true, and_self, Bool.or_false, Bool.false_or, Bool.or_true, Bool.true_or, List.length_nil, List.length_cons, Nat.zero_le, or_true, true_or, Nat.le_refl, ↓reduceIte, Nat.reduceEqDiff, forall_const, false_and, and_false, false_implies, implies_true, not_true_eq_false, or_false, false_or, ne_eq, jd_X13_act, jf_X13, js_X13_isAct, js_X13_isIn, js_X13_no, cs_X13_act, jx_ck_c]
    refine ⟨r1, by omega, fun c1 => ⟨r2, fun c2 => ?_, fun c2 => mK_no ((hK.1 c1).2 c2)⟩, fun c1 => mK_no (hK.2 c1)⟩
    have hK2 := (hK.1 c1).1 c2
    rcases (show w = 0 ∨ w = 1 ∨ w = 2 ∨ w = 3 ∨ w = 4 ∨ (5 ≤ w ∧ w ≤ 10) by omega) with rfl | rfl | rfl | rfl | rfl | c3
    · refine jx_s_tsI (dflt := 68) (lo := 0) (hi := 4) (offs := #[33, 40, 47, 54, 61]) (len := 33) (off := 33) (tgt := 68) (by decide +kernel) r2 (by decide) (by decide) rfl rfl ?_
      refine jx_runL (o := jo_X13) (cs := cs_X13_act) (hf := jx_nh) jo_X13_ok hc_X13_act (jx_HK_nil rfl) (fun _ => false) 40 ?_
      simp only [jw, ju, jx_tg, Int.cast_ofNat_Int, Int.reduceAdd, Int.reduceToNat, Nat.reduceAdd, Nat.reduceMul, Nat.reduceBEq, Nat.reduceLeDiff, Int.reduceLE, Int.reduceLT, Int.reduceEq, Int.reduceNeg, Int.reduceSub, Int.reduceMul, not_false_eq_true, true_and, and_true, and_self, Bool.or_false, Bool.false_or, Bool.or_true, Bool.true_or, List.length_nil, List.length_cons, Nat.zero_le, or_true, true_or, Nat.le_refl, ↓reduceIte, Nat.reduceEqDiff, forall_const, false_and, and_false, false_implies, implies_true, not_true_eq_false, or_false, false_or, ne_eq, jd_X13_act, jf_X13, js_X13_isAct, js_X13_isIn, js_X13_no, cs_X13_act, jx_ck_c]
      exact ⟨by omega, mK_s (hK2.1 (by decide))⟩
    · refine jx_s_tsI (dflt := 68) (lo := 0) (hi := 4) (offs := #[33, 40, 47, 54, 61]) (len := 33) (off := 40) (tgt := 75) (by decide +kernel) r2 (by decide) (by decide) rfl rfl ?_
      refine jx_runL (o := jo_X13) (cs := cs_X13_act) (hf := jx_nh) jo_X13_ok hc_X13_act (jx_HK_nil rfl) (fun _ => false) 40 ?_
      simp only [jw, ju, jx_tg, Int.cast_ofNat_Int, Int.reduceAdd, Int.reduceToNat, Nat.reduceAdd, Nat.reduceMul, Nat.reduceBEq, Nat.reduceLeDiff, Int.reduceLE, Int.reduceLT, Int.reduceEq, Int.reduceNeg, Int.reduceSub, Int.reduceMul, not_false_eq_true, true_and, and_true, and_self, Bool.or_false, Bool.false_or, Bool.or_true, Bool.true_or, List.length_nil, List.length_cons, Nat.zero_le, or_true, true_or, Nat.le_refl, ↓reduceIte, Nat.reduceEqDiff, forall_const, false_and, and_false, false_implies, implies_true, not_true_eq_false, or_false, false_or, ne_eq, jd_X13_act, jf_X13, js_X13_isAct, js_X13_isIn, js_X13_no, cs_X13_act, jx_ck_c]
      exact ⟨by omega, mK_s (hK2.1 (by decide))⟩
    · refine jx_s_tsI (dflt := 68) (lo := 0) (hi := 4) (offs := #[33, 40, 47, 54, 61]) (len := 33) (off := 47) (tgt := 82) (by decide +kernel) r2 (by decide) (by decide) rfl rfl ?_
      refine jx_runL (o := jo_X13) (cs := cs_X13_act) (hf := jx_nh) jo_X13_ok hc_X13_act (jx_HK_nil rfl) (fun _ => false) 40 ?_
      simp only [jw, ju, jx_tg, Int.cast_ofNat_Int, Int.reduceAdd, Int.reduceToNat, Nat.reduceAdd, Nat.reduceMul, Nat.reduceBEq, Nat.reduceLeDiff, Int.reduceLE, Int.reduceLT, Int.reduceEq, Int.reduceNeg, Int.reduceSub, Int.reduceMul, not_false_eq_true, true_and, and_true, and_self, Bool.or_false, Bool.false_or, Bool.or_true, Bool.true_or, List.length_nil, List.length_cons, Nat.zero_le, or_true, true_or, Nat.le_refl, ↓reduceIte, Nat.reduceEqDiff, forall_const, false_and, and_false, false_implies, implies_true, not_true_eq_false, or_false, false_or, ne_eq, jd_X13_act, jf_X13, js_X13_isAct, js_X13_isIn, js_X13_no, cs_X13_act, jx_ck_c]
      exact ⟨by omega, mK_s (hK2.1 (by decide))⟩
    · refine jx_s_tsI (dflt := 68) (lo := 0) (hi := 4) (offs := #[33, 40, 47, 54, 61]) (len := 33) (off := 54) (tgt := 89) (by decide +kernel) r2 (by decide) (by decide) rfl rfl ?_
      refine jx_runL (o := jo_X13) (cs := cs_X13_act) (hf := jx_nh) jo_X13_ok hc_X13_act (jx_HK_nil rfl) (fun _ => false) 40 ?_
      simp only [jw, ju, jx_tg, Int.cast_ofNat_Int, Int.reduceAdd, Int.reduceToNat, Nat.reduceAdd, Nat.reduceMul, Nat.reduceBEq, Nat.reduceLeDiff, Int.reduceLE, Int.reduceLT, Int.reduceEq, Int.reduceNeg, Int.reduceSub, Int.reduceMul, not_false_eq_true, true_and, and_true, and_self, Bool.or_false, Bool.false_or, Bool.or_true, Bool.true_or, List.length_nil, List.length_cons, Nat.zero_le, or_true, true_or, Nat.le_refl, ↓reduceIte, Nat.reduceEqDiff, forall_const, false_and, and_false, false_implies, implies_true, not_true_eq_false, or_false, false_or, ne_eq, jd_X13_act, jf_X13, js_X13_isAct, js_X13_isIn, js_X13_no, cs_X13_act, jx_ck_c]
      exact ⟨by omega, mK_s (hK2.1 (by decide))⟩
    · refine jx_s_tsI (dflt := 68) (lo := 0) (hi := 4) (offs := #[33, 40, 47, 54, 61]) (len := 33) (off := 61) (tgt := 96) (by decide +kernel) r2 (by decide) (by decide) rfl rfl ?_
      refine jx_runL (o := jo_X13) (cs := cs_X13_act) (hf := jx_nh) jo_X13_ok hc_X13_act (jx_HK_nil rfl) (fun _ => false) 40 ?_
      simp only [jw, ju, jx_tg, Int.cast_ofNat_Int, Int.reduceAdd, Int.reduceToNat, Nat.reduceAdd, Nat.reduceMul, Nat.reduceBEq, Nat.reduceLeDiff, Int.reduceLE, Int.reduceLT, Int.reduceEq, Int.reduceNeg, Int.reduceSub, Int.reduceMul, not_false_eq_true, true_and, and_true, and_self, Bool.or_false, Bool.false_or, Bool.or_true, Bool.true_or, List.length_nil, List.length_cons, Nat.zero_le, or_true, true_or, Nat.le_refl, ↓reduceIte, Nat.reduceEqDiff, forall_const, false_and, and_false, false_implies, implies_true, not_true_eq_false, or_false, false_or, ne_eq, jd_X13_act, jf_X13, js_X13_isAct, js_X13_isIn, js_X13_no, cs_X13_act, jx_ck_c]
      exact ⟨by omega, mK_s (hK2.1 (by decide))⟩
    · refine jx_s_tsO (dflt := 68) (lo := 0) (hi := 4) (offs := #[33, 40, 47, 54, 61]) (len := 33) (tgt := 103) (by decide +kernel) r2 (Or.inr (by omega)) rfl ?_
      refine jx_runL (o := jo_X13) (cs := cs_X13_act) (hf := jx_nh) jo_X13_ok hc_X13_act (jx_HK_nil rfl) (fun _ => false) 40 ?_
      simp only [jw, ju, jx_tg, Int.cast_ofNat_Int, Int.reduceAdd, Int.reduceToNat, Nat.reduceAdd, Nat.reduceMul, Nat.reduceBEq, Nat.reduceLeDiff, Int.reduceLE, Int.reduceLT, Int.reduceEq, Int.reduceNeg, Int.reduceSub, Int.reduceMul, not_false_eq_true, true_and, and_true, and_self, Bool.or_false, Bool.false_or, Bool.or_true, Bool.true_or, List.length_nil, List.length_cons, Nat.zero_le, or_true, true_or, Nat.le_refl, ↓reduceIte, Nat.reduceEqDiff, forall_const, false_and, and_false, false_implies, implies_true, not_true_eq_false, or_false, false_or, ne_eq, jd_X13_act, jf_X13, js_X13_isAct, js_X13_isIn, js_X13_no, cs_X13_act, jx_ck_c]
      have e1 : (w - 5).tdiv 2 = (w - 5) / 2 := Int.tdiv_eq_ediv_of_nonneg (by omega)
      have e2 : w.tmod 2 = w % 2 := Int.tmod_eq_emod_of_nonneg (by omega)
      rw [e1, e2]
      refine ⟨by omega, by omega, by omega, fun c4 => ⟨by omega, ?_⟩, fun c4 => ⟨by omega, ?_⟩⟩
      · exact mK_s ((hK2.2 (by omega)).2 (by omega))
      · exact mK_s ((hK2.2 (by omega)).1 (by omega))
  · exact hS.elim
def js_X13_told : jx_Sp := fun as g M Po => match as with
  | [(73, _, y), (0, _, w)] => jx_r w ∧ mK y g M Po 0 (f_told w (mY M y)).1 (f_told w (mY M y)).2
  | _ => False
def cs_X13_told : jx_Cs := [(372, 2, 0, 0, js_X13_no)]
theorem hc_X13_told {D : jx_D} {l : Launch} : jx_CsOK D l "LoopLaneModel" 3 cs_X13_told := List.forall_mem_cons.mpr ⟨jc_X13_124 (jt_X13_no l) (fun as g M Po (h : js_X13_no as g M Po) => by unfold js_X13_no at h; split at h <;> first | exact h.elim | exact ⟨_, _, _, rfl, rfl⟩) (by decide), fun _ h => absurd h List.not_mem_nil⟩
set_option maxHeartbeats 4000000 in
theorem jt_X13_told (l : Launch) : jx_Ct l yX13_told (ws_ yX13_told cX13_told 2 (some .int)) 3 0 0 js_X13_told := by
  refine jx_Ct_c (rc := 0) (by decide) rfl (fun D as g M Po hS => ?_)
  unfold js_X13_told at hS
  split at hS
  · rename_i n1 y n2 w
    obtain ⟨r2, hK⟩ := hS
    unfold f_told at hK
    simp only [mK_ite, mno] at hK
    try simp only [mY_0] at hK
    try simp only [mY_j] at hK
    refine ⟨Nat.le_of_ble_eq_true rfl, ?_⟩
    refine jx_runL (o := jo_X13) (cs := cs_X13_told) (hf := jx_nh) jo_X13_ok hc_X13_told (jx_HK_nil rfl) (fun p => p == 1) 2 ?_
    simp only [jw, ju, jx_tg, Int.cast_ofNat_Int, Int.reduceAdd, Int.reduceToNat, Nat.reduceAdd, Nat.reduceMul, Nat.reduceBEq, Nat.reduceLeDiff, Int.reduceLE, Int.reduceLT, Int.reduceEq, Int.reduceNeg, Int.reduceSub, Int.reduceMul, not_false_eq_true, true_and, and_true, and_self, Bool.or_false, Bool.false_or, Bool.or_true, Bool.true_or, List.length_nil, List.length_cons, Nat.zero_le, or_true, true_or, Nat.le_refl, ↓reduceIte, Nat.reduceEqDiff, forall_const, false_and, and_false, false_implies, implies_true, not_true_eq_false, or_false, false_or, ne_eq, jd_X13_told, jf_X13, js_X13_no, cs_X13_told, jx_ck_c]
    rcases (show w = 0 ∨ w = 1 ∨ w = 2 ∨ w = 3 ∨ w = 4 ∨ w = 5 ∨ (w < 0 ∨ 5 < w) by omega) with rfl | rfl | rfl | rfl | rfl | rfl | c3
    · refine jx_s_tsI (dflt := 69) (lo := 0) (hi := 5) (offs := #[39, 44, 49, 54, 59, 64]) (len := 39) (off := 39) (tgt := 40) (by decide +kernel) r2 (by decide) (by decide) rfl rfl ?_
      refine jx_runL (o := jo_X13) (cs := cs_X13_told) (hf := jx_nh) jo_X13_ok hc_X13_told (jx_HK_nil rfl) (fun _ => false) 40 ?_
      simp only [jw, ju, jx_tg, Int.cast_ofNat_Int, Int.reduceAdd, Int.reduceToNat, Nat.reduceAdd, Nat.reduceMul, Nat.reduceBEq, Nat.reduceLeDiff, Int.reduceLE, Int.reduceLT, Int.reduceEq, Int.reduceNeg, Int.reduceSub, Int.reduceMul, not_false_eq_true, true_and, and_true, and_self, Bool.or_false, Bool.false_or, Bool.or_true, Bool.true_or, List.length_nil, List.length_cons, Nat.zero_le, or_true, true_or, Nat.le_refl, ↓reduceIte, Nat.reduceEqDiff, forall_const, false_and, and_false, false_implies, implies_true, not_true_eq_false, or_false, false_or, ne_eq, jd_X13_told, jf_X13, js_X13_no, cs_X13_told, jx_ck_c]
      exact mK_s (hK.1 (by decide))
    · refine jx_s_tsI (dflt := 69) (lo := 0) (hi := 5) (offs := #[39, 44, 49, 54, 59, 64]) (len := 39) (off := 44) (tgt := 45) (by decide +kernel) r2 (by decide) (by decide) rfl rfl ?_
      refine jx_runL (o := jo_X13) (cs := cs_X13_told) (hf := jx_nh) jo_X13_ok hc_X13_told (jx_HK_nil rfl) (fun _ => false) 40 ?_
      simp only [jw, ju, jx_tg, Int.cast_ofNat_Int, Int.reduceAdd, Int.reduceToNat, Nat.reduceAdd, Nat.reduceMul, Nat.reduceBEq, Nat.reduceLeDiff, Int.reduceLE, Int.reduceLT, Int.reduceEq, Int.reduceNeg, Int.reduceSub, Int.reduceMul, not_false_eq_true, true_and, and_true, and_self, Bool.or_false, Bool.false_or, Bool.or_true, Bool.true_or, List.length_nil, List.length_cons, Nat.zero_le, or_true, true_or, Nat.le_refl, ↓reduceIte, Nat.reduceEqDiff, forall_const, false_and, and_false, false_implies, implies_true, not_true_eq_false, or_false, false_or, ne_eq, jd_X13_told, jf_X13, js_X13_no, cs_X13_told, jx_ck_c]
      exact mK_s (hK.1 (by decide))
    · refine jx_s_tsI (dflt := 69) (lo := 0) (hi := 5) (offs := #[39, 44, 49, 54, 59, 64]) (len := 39) (off := 49) (tgt := 50) (by decide +kernel) r2 (by decide) (by decide) rfl rfl ?_
      refine jx_runL (o := jo_X13) (cs := cs_X13_told) (hf := jx_nh) jo_X13_ok hc_X13_told (jx_HK_nil rfl) (fun _ => false) 40 ?_
      simp only [jw, ju, jx_tg, Int.cast_ofNat_Int, Int.reduceAdd, Int.reduceToNat, Nat.reduceAdd, Nat.reduceMul, Nat.reduceBEq, Nat.reduceLeDiff, Int.reduceLE, Int.reduceLT, Int.reduceEq, Int.reduceNeg, Int.reduceSub, Int.reduceMul, not_false_eq_true, true_and, and_true, and_self, Bool.or_false, Bool.false_or, Bool.or_true, Bool.true_or, List.length_nil, List.length_cons, Nat.zero_le, or_true, true_or, Nat.le_refl, ↓reduceIte, Nat.reduceEqDiff, forall_const, false_and, and_false, false_implies, implies_true, not_true_eq_false, or_false, false_or, ne_eq, jd_X13_told, jf_X13, js_X13_no, cs_X13_told, jx_ck_c]
      exact mK_s (hK.1 (by decide))
    · refine jx_s_tsI (dflt := 69) (lo := 0) (hi := 5) (offs := #[39, 44, 49, 54, 59, 64]) (len := 39) (off := 54) (tgt := 55) (by decide +kernel) r2 (by decide) (by decide) rfl rfl ?_
      refine jx_runL (o := jo_X13) (cs := cs_X13_told) (hf := jx_nh) jo_X13_ok hc_X13_told (jx_HK_nil rfl) (fun _ => false) 40 ?_
      simp only [jw, ju, jx_tg, Int.cast_ofNat_Int, Int.reduceAdd, Int.reduceToNat, Nat.reduceAdd, Nat.reduceMul, Nat.reduceBEq, Nat.reduceLeDiff, Int.reduceLE, Int.reduceLT, Int.reduceEq, Int.reduceNeg, Int.reduceSub, Int.reduceMul, not_false_eq_true, true_and, and_true, and_self, Bool.or_false, Bool.false_or, Bool.or_true, Bool.true_or, List.length_nil, List.length_cons, Nat.zero_le, or_true, true_or, Nat.le_refl, ↓reduceIte, Nat.reduceEqDiff, forall_const, false_and, and_false, false_implies, implies_true, not_true_eq_false, or_false, false_or, ne_eq, jd_X13_told, jf_X13, js_X13_no, cs_X13_told, jx_ck_c]
      exact mK_s (hK.1 (by decide))
    · refine jx_s_tsI (dflt := 69) (lo := 0) (hi := 5) (offs := #[39, 44, 49, 54, 59, 64]) (len := 39) (off := 59) (tgt := 60) (by decide +kernel) r2 (by decide) (by decide) rfl rfl ?_
      refine jx_runL (o := jo_X13) (cs := cs_X13_told) (hf := jx_nh) jo_X13_ok hc_X13_told (jx_HK_nil rfl) (fun _ => false) 40 ?_
      simp only [jw, ju, jx_tg, Int.cast_ofNat_Int, Int.reduceAdd, Int.reduceToNat, Nat.reduceAdd, Nat.reduceMul, Nat.reduceBEq, Nat.reduceLeDiff, Int.reduceLE, Int.reduceLT, Int.reduceEq, Int.reduceNeg, Int.reduceSub, Int.reduceMul, not_false_eq_true, true_and, and_true, and_self, Bool.or_false, Bool.false_or, Bool.or_true, Bool.true_or, List.length_nil, List.length_cons, Nat.zero_le, or_true, true_or, Nat.le_refl, ↓reduceIte, Nat.reduceEqDiff, forall_const, false_and, and_false, false_implies, implies_true, not_true_eq_false, or_false, false_or, ne_eq, jd_X13_told, jf_X13, js_X13_no, cs_X13_told, jx_ck_c]
      exact mK_s (hK.1 (by decide))
    · refine jx_s_tsI (dflt := 69) (lo := 0) (hi := 5) (offs := #[39, 44, 49, 54, 59, 64]) (len := 39) (off := 64) (tgt := 65) (by decide +kernel) r2 (by decide) (by decide) rfl rfl ?_
      refine jx_runL (o := jo_X13) (cs := cs_X13_told) (hf := jx_nh) jo_X13_ok hc_X13_told (jx_HK_nil rfl) (fun _ => false) 40 ?_
      simp only [jw, ju, jx_tg, Int.cast_ofNat_Int, Int.reduceAdd, Int.reduceToNat, Nat.reduceAdd, Nat.reduceMul, Nat.reduceBEq, Nat.reduceLeDiff, Int.reduceLE, Int.reduceLT, Int.reduceEq, Int.reduceNeg, Int.reduceSub, Int.reduceMul, not_false_eq_true, true_and, and_true, and_self, Bool.or_false, Bool.false_or, Bool.or_true, Bool.true_or, List.length_nil, List.length_cons, Nat.zero_le, or_true, true_or, Nat.le_refl, ↓reduceIte, Nat.reduceEqDiff, forall_const, false_and, and_false, false_implies, implies_true, not_true_eq_false, or_false, false_or, ne_eq, jd_X13_told, jf_X13, js_X13_no, cs_X13_told, jx_ck_c]
      exact mK_s (hK.1 (by decide))
    · refine jx_s_tsO (dflt := 69) (lo := 0) (hi := 5) (offs := #[39, 44, 49, 54, 59, 64]) (len := 39) (tgt := 70) (by decide +kernel) r2 c3 rfl ?_
      refine jx_runL (o := jo_X13) (cs := cs_X13_told) (hf := jx_nh) jo_X13_ok hc_X13_told (jx_HK_nil rfl) (fun _ => false) 40 ?_
      simp only [jw, ju, jx_tg, Int.cast_ofNat_Int, Int.reduceAdd, Int.reduceToNat, Nat.reduceAdd, Nat.reduceMul, Nat.reduceBEq, Nat.reduceLeDiff, Int.reduceLE, Int.reduceLT, Int.reduceEq, Int.reduceNeg, Int.reduceSub, Int.reduceMul, not_false_eq_true, true_and, and_true, and_self, Bool.or_false, Bool.false_or, Bool.or_true, Bool.true_or, List.length_nil, List.length_cons, Nat.zero_le, or_true, true_or, Nat.le_refl, ↓reduceIte, Nat.reduceEqDiff, forall_const, false_and, and_false, false_implies, implies_true, not_true_eq_false, or_false, false_or, ne_eq, jd_X13_told, jf_X13, js_X13_no, cs_X13_told, jx_ck_c]
      exact mK_no (hK.2 (by omega))
  · exact hS.elim
def js_X13_whole : jx_Sp := fun as g M Po => match as with
  | [(73, _, y)] => ((0 ≤ M y 9 ∧ M y 9 ≤ 16) ∧ (∀ k, 0 ≤ k → k < 3 * M y 9 → -1 ≤ M (y + 6) k ∧ M (y + 6) k ≤ 15)) ∧ (mm_whole (mY M y) → Po (0, 0, 1) g M) ∧ (¬ mm_whole (mY M y) → Po (0, 0, 0) g M)
  | _ => False
set_option maxHeartbeats 4000000 in
theorem jt_X13_whole (l : Launch) : jx_Ct l yX13_whole (ws_ yX13_whole cX13_whole 2 (some .int)) 0 0 0 js_X13_whole := by
  refine jx_Ct_c (rc := 0) (by decide) rfl (fun D as g M Po hS => ?_)
  unfold js_X13_whole at hS
  split at hS
  · rename_i n1 y
    obtain ⟨⟨hm, ho⟩, hP1, hP0⟩ := hS
    simp only [mm_whole, mY_0] at hP1 hP0
    simp only [mY_j] at hP1 hP0
    refine ⟨Nat.le_of_ble_eq_true rfl, ?_⟩
    have loop : ∀ (n : Nat) (k : Int), 0 ≤ k → 3 * M y 9 - k < n → k ≤ 3 * M y 9 → (∀ i, 0 ≤ i → i < k → M (y + 6) i < M y 9) → jx_V D l (yX13_whole.cls, cX13_whole, 2, 0, [], 0, 0, 0, yX13_whole.name) Po 2 [(73, n1, y), (0, 0, k)] [] (0, 0) g M := by
      intro n
      induction n with
      | zero => intro k h0 h1 h2; omega
      | succ n ih =>
        intro k h0 h1 h2 h3
        refine jx_runL (o := jo_X13) (cs := []) (hf := jx_nh) jo_X13_ok jx_cs0 (jx_HK_nil rfl) (fun p => p == 2) 40 ?_
        simp only [jw, ju, jx_tg, Int.cast_ofNat_Int, Int.reduceAdd, Int.reduceToNat, Nat.reduceAdd, Nat.reduceMul, Nat.reduceBEq, Nat.reduceLeDiff, Int.reduceLE, Int.reduceLT, Int.reduceEq, Int.reduceNeg, Int.reduceSub, Int.reduceMul, not_false_eq_true, true_and, and_true, and_self, Bool.or_false, Bool.false_or, Bool.or_true, Bool.true_or, List.length_nil, List.length_cons, Nat.zero_le, or_true, true_or, Nat.le_refl, ↓reduceIte, Nat.reduceEqDiff, forall_const, false_and, and_false, false_implies, implies_true, not_true_eq_false, or_false, false_or, ne_eq, jd_X13_whole, jf_X13]
        refine ⟨by omega, fun c => hP1 (fun i i0 i1 => h3 i i0 (by omega)), fun c => ⟨by omega, ?_, fun c2 => ih _ (by omega) (by omega) (by omega) (fun i i0 i1 => ?_), fun c2 => hP0 (fun q => absurd (q k h0 (by omega)) c2)⟩⟩
        · have := ho k h0 (by omega)
          omega
        · rcases (show i < k ∨ i = k by omega) with q | q
          · exact h3 i i0 q
          · rw [q]; exact c2
    refine jx_runL (o := jo_X13) (cs := []) (hf := jx_nh) jo_X13_ok jx_cs0 (jx_HK_nil rfl) (fun p => p == 2) 2 ?_
    simp only [jw, ju, jx_tg, Int.cast_ofNat_Int, Int.reduceAdd, Int.reduceToNat, Nat.reduceAdd, Nat.reduceMul, Nat.reduceBEq, Nat.reduceLeDiff, Int.reduceLE, Int.reduceLT, Int.reduceEq, Int.reduceNeg, Int.reduceSub, Int.reduceMul, not_false_eq_true, true_and, and_true, and_self, Bool.or_false, Bool.false_or, Bool.or_true, Bool.true_or, List.length_nil, List.length_cons, Nat.zero_le, or_true, true_or, Nat.le_refl, ↓reduceIte, Nat.reduceEqDiff, forall_const, false_and, and_false, false_implies, implies_true, not_true_eq_false, or_false, false_or, ne_eq, jd_X13_whole, jf_X13]
    exact loop 60 0 (by omega) (by omega) (by omega) (fun i i0 i1 => by omega)
  · exact hS.elim
theorem mm_why2_o {S : jx_M} {s i : Int} (h : ¬ (0 ≤ s ∧ s < 8)) : mm_why2 S s i = -3 := if_neg h
theorem mm_why2_i {S : jx_M} {s i : Int} (h : 0 ≤ s ∧ s < 8) : mm_why2 S s i = mm_why S s i := if_pos h
theorem mm_why_m {S : jx_M} {s i : Int} (h : S 21 s = 0) : mm_why S s i = -2 := if_pos h
theorem mm_why_k {S : jx_M} {s i : Int} (h : S 21 s ≠ 0) (h2 : S 22 s = 0) : mm_why S s i = -5 := by unfold mm_why; rw [if_neg h, if_pos h2]
theorem mm_why_0 {S : jx_M} {s i : Int} (h : S 21 s ≠ 0) (h2 : S 22 s ≠ 0) (h3 : 0 ≤ i ∧ i < S 21 s) : mm_why S s i = 0 := by unfold mm_why; rw [if_neg h, if_neg h2, if_pos h3]
theorem mm_why_b {S : jx_M} {s i : Int} (h : S 21 s ≠ 0) (h2 : S 22 s ≠ 0) (h3 : ¬ (0 ≤ i ∧ i < S 21 s)) : mm_why S s i = -3 := by unfold mm_why; rw [if_neg h, if_neg h2, if_neg h3]
/-- rows as they must be -/
def mm_rows (S : jx_M) : Prop := ∀ s, 0 ≤ s → s < 8 → (0 ≤ S 21 s ∧ S 21 s ≤ 40) ∧ (S 22 s = 0 ∨ S 22 s = 1)
/-- 'why' of the reference, by mm_why -/
def jp_X13_why : jx_Sp := fun as g M Po => match as with
  | [(73, _, y), (0, _, s), (1, _, i)] => ((0 ≤ s ∧ s < 8) ∧ mm_rows (mY M y)) ∧ Po (0, 0, mm_why (mY M y) s i) g M
  | _ => False
set_option maxHeartbeats 4000000 in
theorem jq_X13_why (l : Launch) : jx_Ct l yX13_why (ws_ yX13_why cX13_why 4 (some .int)) 1 0 0 jp_X13_why := by
  refine jx_Ct_mono (jt_X13_why l) (fun as g M Po h => ?_)
  unfold jp_X13_why at h
  split at h
  rotate_left
  · exact h.elim
  · unfold js_X13_why
    obtain ⟨⟨h1, h2⟩, hP⟩ := h
    obtain ⟨b1, b2⟩ := h2 _ h1.1 h1.2
    simp only [mY_j] at b1 b2
    refine ⟨h1, b1, b2, fun c => ?_, fun c c2 => ?_, fun c c2 c3 => ?_, fun c c2 c3 => ?_⟩
    · rw [mm_why_m (by simp only [mY_j]; exact c)] at hP
      exact hP
    · rw [mm_why_k (by simp only [mY_j]; exact c) (by simp only [mY_j]; exact c2)] at hP
      exact hP
    · rw [mm_why_0 (by simp only [mY_j]; exact c) (by simp only [mY_j]; omega) (by simp only [mY_j]; exact c3)] at hP
      exact hP
    · rw [mm_why_b (by simp only [mY_j]; exact c) (by simp only [mY_j]; omega) (by simp only [mY_j]; exact c3)] at hP
      exact hP
theorem mm_why_r {S : jx_M} {s i : Int} : -5 ≤ mm_why S s i ∧ mm_why S s i ≤ 0 := by
  unfold mm_why
  split
  · omega
  · split
    · omega
    · split <;> omega
/-- where there is a long -/
theorem mm_why_z {S : jx_M} {s i : Int} (h : mm_why S s i = 0) : S 21 s ≠ 0 ∧ S 22 s ≠ 0 ∧ (0 ≤ i ∧ i < S 21 s) := by
  unfold mm_why at h
  split at h
  · omega
  · split at h
    · omega
    · split at h
      · rename_i a b c
        exact ⟨a, b, c⟩
      · omega
def js_X13_set : jx_Sp := fun as g M Po => match as with
  | [(73, _, y), (0, _, s), (0, _, i), (1, _, v)] => (jx_r s ∧ jx_r i ∧ mm_rows (mY M y)) ∧ mK y g M Po 0 (f_set s i v (mY M y)).1 (f_set s i v (mY M y)).2
  | _ => False
def cs_X13_set : jx_Cs := [(748, 1, 0, 0, js_X13_isSlot), (762, 3, 0, 0, jp_X13_why), (372, 2, 0, 0, js_X13_no)]
theorem hc_X13_set {D : jx_D} {l : Launch} : jx_CsOK D l "LoopLaneModel" 3 cs_X13_set := List.forall_mem_cons.mpr ⟨jc_X13_249 (jt_X13_isSlot l) (fun as g M Po (h : js_X13_isSlot as g M Po) => by unfold js_X13_isSlot at h; split at h <;> first | exact h.elim | exact rfl) (by decide), List.forall_mem_cons.mpr ⟨jc_X13_254 (jq_X13_why l) (fun as g M Po (h : jp_X13_why as g M Po) => by unfold jp_X13_why at h; split at h <;> first | exact h.elim | exact ⟨_, _, _, rfl, rfl⟩) (by decide), List.forall_mem_cons.mpr ⟨jc_X13_124 (jt_X13_no l) (fun as g M Po (h : js_X13_no as g M Po) => by unfold js_X13_no at h; split at h <;> first | exact h.elim | exact ⟨_, _, _, rfl, rfl⟩) (by decide), fun _ h => absurd h List.not_mem_nil⟩⟩⟩
set_option maxHeartbeats 4000000 in
theorem jt_X13_set (l : Launch) : jx_Ct l yX13_set (ws_ yX13_set cX13_set 6 (some .int)) 3 0 0 js_X13_set := by
  refine jx_Ct_c (rc := 0) (by decide) rfl (fun D as g M Po hS => ?_)
  unfold js_X13_set at hS
  split at hS
  · rename_i n1 y n2 s n3 i n4 v
    obtain ⟨⟨r1, r2, h1⟩, hK⟩ := hS
    unfold f_set at hK
    simp only [mK_ite, mno] at hK
    try simp only [mY_0] at hK
    try simp only [mY_j] at hK
    refine ⟨Nat.le_of_ble_eq_true rfl, ?_⟩
    refine jx_runL (o := jo_X13) (cs := cs_X13_set) (hf := jx_nh) jo_X13_ok hc_X13_set (jx_HK_nil rfl) (fun _ => false) 60 ?_
    simp only [jw, ju, jx_tg, Int.cast_ofNat_Int, Int.reduceAdd, Int.reduceToNat, Nat.reduceAdd, Nat.reduceMul, Nat.reduceBEq, Nat.reduceLeDiff, Int.reduceLE, Int.reduceLT, Int.reduceEq, Int.reduceNeg, Int.reduceSub, Int.reduceMul, not_false_eq_true, true_and, and_true, and_self, Bool.or_false, Bool.false_or, Bool.or_true, Bool.true_or, List.length_nil, List.length_cons, Nat.zero_le, or_true, true_or, Nat.le_refl, ↓reduceIte, Nat.reduceEqDiff, forall_const, false_and, and_false, false_implies, implies_true, not_true_eq_false, or_false, false_or, ne_eq, jd_X13_set, jf_X13, jp_X13_why, js_X13_isSlot, js_X13_no, cs_X13_set, jx_ck_c]
    refine ⟨r1, fun c1 => ⟨r2, ⟨c1, h1⟩, ?_⟩, fun c1 => ?_⟩
    · rw [mm_why2_i c1] at hK
      have hr := @mm_why_r (mY M y) s i
      refine ⟨by omega, fun c2 => ?_, fun c2 => ⟨by omega, mK_no (hK.2 c2)⟩⟩
      have hz := mm_why_z (show mm_why (mY M y) s i = 0 by omega)
      have hb := h1 s c1.1 c1.2
      exact ⟨by omega, mK_of (hK.1 (by omega)) (by simp only [mY_u]) (mFr_u mFr_rf (by omega))⟩
    · rw [mm_why2_o c1] at hK
      exact mK_no (hK.2 (by decide))
  · exact hS.elim
def js_X13_get : jx_Sp := fun as g M Po => match as with
  | [(73, _, y), (0, _, s), (0, _, i)] => (jx_r s ∧ jx_r i ∧ mm_rows (mY M y)) ∧ mK y g M Po 1 (f_get s i (mY M y)).1 (f_get s i (mY M y)).2
  | _ => False
def cs_X13_get : jx_Cs := [(748, 1, 0, 0, js_X13_isSlot), (762, 3, 0, 0, jp_X13_why), (372, 2, 0, 0, js_X13_no)]
theorem hc_X13_get {D : jx_D} {l : Launch} : jx_CsOK D l "LoopLaneModel" 3 cs_X13_get := List.forall_mem_cons.mpr ⟨jc_X13_249 (jt_X13_isSlot l) (fun as g M Po (h : js_X13_isSlot as g M Po) => by unfold js_X13_isSlot at h; split at h <;> first | exact h.elim | exact rfl) (by decide), List.forall_mem_cons.mpr ⟨jc_X13_254 (jq_X13_why l) (fun as g M Po (h : jp_X13_why as g M Po) => by unfold jp_X13_why at h; split at h <;> first | exact h.elim | exact ⟨_, _, _, rfl, rfl⟩) (by decide), List.forall_mem_cons.mpr ⟨jc_X13_124 (jt_X13_no l) (fun as g M Po (h : js_X13_no as g M Po) => by unfold js_X13_no at h; split at h <;> first | exact h.elim | exact ⟨_, _, _, rfl, rfl⟩) (by decide), fun _ h => absurd h List.not_mem_nil⟩⟩⟩
set_option maxHeartbeats 4000000 in
theorem jt_X13_get (l : Launch) : jx_Ct l yX13_get (ws_ yX13_get cX13_get 5 (some .long)) 3 0 0 js_X13_get := by
  refine jx_Ct_c (rc := 1) (by decide) rfl (fun D as g M Po hS => ?_)
  unfold js_X13_get at hS
  split at hS
  · rename_i n1 y n2 s n3 i
    obtain ⟨⟨r1, r2, h1⟩, hK⟩ := hS
    unfold f_get at hK
    simp only [mK_ite, mno] at hK
    try simp only [mY_0] at hK
    try simp only [mY_j] at hK
    refine ⟨Nat.le_of_ble_eq_true rfl, ?_⟩
    refine jx_runL (o := jo_X13) (cs := cs_X13_get) (hf := jx_nh) jo_X13_ok hc_X13_get (jx_HK_nil rfl) (fun _ => false) 60 ?_
    simp only [jw, ju, jx_tg, Int.cast_ofNat_Int, Int.reduceAdd, Int.reduceToNat, Nat.reduceAdd, Nat.reduceMul, Nat.reduceBEq, Nat.reduceLeDiff, Int.reduceLE, Int.reduceLT, Int.reduceEq, Int.reduceNeg, Int.reduceSub, Int.reduceMul, not_false_eq_true, true_and, and_true, and_self, Bool.or_false, Bool.false_or, Bool.or_true, Bool.true_or, List.length_nil, List.length_cons, Nat.zero_le, or_true, true_or, Nat.le_refl, ↓reduceIte, Nat.reduceEqDiff, forall_const, false_and, and_false, false_implies, implies_true, not_true_eq_false, or_false, false_or, ne_eq, jd_X13_get, jf_X13, jp_X13_why, js_X13_isSlot, js_X13_no, cs_X13_get, jx_ck_c]
    refine ⟨r1, fun c1 => ⟨r2, ⟨c1, h1⟩, ?_⟩, fun c1 => ?_⟩
    · rw [mm_why2_i c1] at hK
      have hr := @mm_why_r (mY M y) s i
      refine ⟨by omega, fun c2 => ⟨by omega, mK_no (hK.2 c2)⟩, fun c2 => ?_⟩
      have hz := mm_why_z (show mm_why (mY M y) s i = 0 by omega)
      have hb := h1 s c1.1 c1.2
      exact ⟨by omega, mK_s (hK.1 (by omega))⟩
    · rw [mm_why2_o c1] at hK
      exact mK_no (hK.2 (by decide))
  · exact hS.elim
theorem mY_zero {M : jx_M} {y p : Int} : ∀ n : Nat, mm_zero (mY M y) p n = mY (fun z i => if z = y + 19 ∧ p ≤ i ∧ i < p + n then 0 else M z i) y
  | 0 => by
    funext j k
    show mY M y j k = _
    unfold mY
    dsimp only
    rw [if_neg (by omega)]
  | n + 1 => by
    unfold mm_zero
    rw [mY_zero n]
    funext j k
    unfold jx_u mY
    dsimp only
    by_cases h : j = 19 ∧ k = p + n
    · rw [if_pos h, if_pos ⟨by omega, by omega, by omega⟩]
    · rw [if_neg h]
      by_cases h2 : y + j = y + 19 ∧ p ≤ k ∧ k < p + n
      · rw [if_pos h2, if_pos ⟨h2.1, h2.2.1, by omega⟩]
      · rw [if_neg h2, if_neg (by omega)]
def js_X13_row : jx_Sp := fun as g M Po => match as with
  | [(73, _, y), (0, _, s), (0, _, n), (0, _, w)] => (jx_r s ∧ jx_r n ∧ (w = 0 ∨ w = 1)) ∧ mK y g M Po 0 (f_row s n w (mY M y)).1 (f_row s n w (mY M y)).2
  | _ => False
def cs_X13_row : jx_Cs := [(748, 1, 0, 0, js_X13_isSlot), (412, 3, 0, 0, js_X13_isIn), (372, 2, 0, 0, js_X13_no)]
theorem hc_X13_row {D : jx_D} {l : Launch} : jx_CsOK D l "LoopLaneModel" 3 cs_X13_row := List.forall_mem_cons.mpr ⟨jc_X13_249 (jt_X13_isSlot l) (fun as g M Po (h : js_X13_isSlot as g M Po) => by unfold js_X13_isSlot at h; split at h <;> first | exact h.elim | exact rfl) (by decide), List.forall_mem_cons.mpr ⟨jc_X13_137 (jt_X13_isIn l) (fun as g M Po (h : js_X13_isIn as g M Po) => by unfold js_X13_isIn at h; split at h <;> first | exact h.elim | exact rfl) (by decide), List.forall_mem_cons.mpr ⟨jc_X13_124 (jt_X13_no l) (fun as g M Po (h : js_X13_no as g M Po) => by unfold js_X13_no at h; split at h <;> first | exact h.elim | exact ⟨_, _, _, rfl, rfl⟩) (by decide), fun _ h => absurd h List.not_mem_nil⟩⟩⟩
set_option maxHeartbeats 4000000 in
theorem jt_X13_row (l : Launch) : jx_Ct l yX13_row (ws_ yX13_row cX13_row 5 (some .int)) 3 0 0 js_X13_row := by
  refine jx_Ct_c (rc := 0) (by decide) rfl (fun D as g M Po hS => ?_)
  unfold js_X13_row at hS
  split at hS
  · rename_i n1 y n2 s n3 n n4 w
    obtain ⟨⟨r1, r2, r3⟩, hK⟩ := hS
    unfold f_row at hK
    simp only [mK_ite, mno] at hK
    try simp only [mY_0] at hK
    try simp only [mY_j] at hK
    refine ⟨Nat.le_of_ble_eq_true rfl, ?_⟩
    refine jx_runL (o := jo_X13) (cs := cs_X13_row) (hf := jx_nh) jo_X13_ok hc_X13_row (jx_HK_nil rfl) (fun p => p == 61) 60 ?_
    simp only [jw, ju, jx_tg, Int.cast_ofNat_Int, Int.reduceAdd, Int.reduceToNat, Nat.reduceAdd, Nat.reduceMul, Nat.reduceBEq, Nat.reduceLeDiff, Int.reduceLE, Int.reduceLT, Int.reduceEq, Int.reduceNeg, Int.reduceSub, Int.reduceMul, not_false_eq_true, true_and, and_true, and_self, Bool.or_false, Bool.false_or, Bool.or_true, Bool.true_or, List.length_nil, List.length_cons, Nat.zero_le, or_true, true_or, Nat.le_refl, ↓reduceIte, Nat.reduceEqDiff, forall_const, false_and, and_false, false_implies, implies_true, not_true_eq_false, or_false, false_or, ne_eq, jd_X13_row, jf_X13, js_X13_isIn, js_X13_isSlot, js_X13_no, cs_X13_row, jx_ck_c]
    refine ⟨r1, fun c1 => ⟨r2, fun c2 => ⟨r2, fun c3 => ⟨by omega, by omega, r3, ?_⟩, fun c3 => mK_no (((hK.1 c1).2 (by omega)).2 c3)⟩, fun c2 => mK_no ((hK.1 c1).1 (by omega))⟩, fun c1 => mK_no (hK.2 c1)⟩
    have hE := ((hK.1 c1).2 (by omega)).1 c3
    have loop : ∀ (f : Nat) (k : Nat) (M' : jx_M), k + f = n.toNat → mY M' y = mm_zero (jx_u (jx_u (mY M y) 21 s n) 22 s w) (40 * s) k → mFr y M M' → jx_V D l (yX13_row.cls, cX13_row, 5, 0, [], 3, 0, 0, yX13_row.name) Po 61 [(73, n1, y), (0, n2, s), (0, n3, n), (0, n4, w), (0, 0, (k : Int))] [] (0, 0) g M' := by
      intro f
      induction f with
      | zero =>
        intro k M' hk h1 h2
        refine jx_runL (o := jo_X13) (cs := cs_X13_row) (hf := jx_nh) jo_X13_ok hc_X13_row (jx_HK_nil rfl) (fun p => p == 61) 60 ?_
        simp only [jw, ju, jx_tg, Int.cast_ofNat_Int, Int.reduceAdd, Int.reduceToNat, Nat.reduceAdd, Nat.reduceMul, Nat.reduceBEq, Nat.reduceLeDiff, Int.reduceLE, Int.reduceLT, Int.reduceEq, Int.reduceNeg, Int.reduceSub, Int.reduceMul, not_false_eq_true, true_and, and_true, and_self, Bool.or_false, Bool.false_or, Bool.or_true, Bool.true_or, List.length_nil, List.length_cons, Nat.zero_le, or_true, true_or, Nat.le_refl, ↓reduceIte, Nat.reduceEqDiff, forall_const, false_and, and_false, false_implies, implies_true, not_true_eq_false, or_false, false_or, ne_eq, jd_X13_row, jf_X13, js_X13_isIn, js_X13_isSlot, js_X13_no, cs_X13_row, jx_ck_c]
        refine ⟨by omega, fun c => hE _ (mQ_eq ?_) h2, fun c => by omega⟩
        rw [h1, show k = n.toNat by omega]
      | succ f ih =>
        intro k M' hk h1 h2
        refine jx_runL (o := jo_X13) (cs := cs_X13_row) (hf := jx_nh) jo_X13_ok hc_X13_row (jx_HK_nil rfl) (fun p => p == 61) 60 ?_
        simp only [jw, ju, jx_tg, Int.cast_ofNat_Int, Int.reduceAdd, Int.reduceToNat, Nat.reduceAdd, Nat.reduceMul, Nat.reduceBEq, Nat.reduceLeDiff, Int.reduceLE, Int.reduceLT, Int.reduceEq, Int.reduceNeg, Int.reduceSub, Int.reduceMul, not_false_eq_true, true_and, and_true, and_self, Bool.or_false, Bool.false_or, Bool.or_true, Bool.true_or, List.length_nil, List.length_cons, Nat.zero_le, or_true, true_or, Nat.le_refl, ↓reduceIte, Nat.reduceEqDiff, forall_const, false_and, and_false, false_implies, implies_true, not_true_eq_false, or_false, false_or, ne_eq, jd_X13_row, jf_X13, js_X13_isIn, js_X13_isSlot, js_X13_no, cs_X13_row, jx_ck_c]
        refine ⟨by omega, fun c => by omega, fun c => ⟨by omega, ?_⟩⟩
        refine ih (k + 1) _ (by omega) ?_ (mFr_u h2 (by omega))
        rw [mY_u, h1]
        rfl
    exact loop n.toNat 0 _ (by omega) (by simp only [mY_u]; rfl) (mFr_u (mFr_u mFr_rf (by omega)) (by omega))
  · exact hS.elim
