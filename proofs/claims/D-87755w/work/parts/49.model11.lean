/-! the reference, 11: value, does, plain -/
set_option maxRecDepth 100000
/-- what an act takes -/
def mm_val (S : jx_M) (a k t : Int) : Int := if t - S 7 (3 * a + k) < 0 then S 8 (S 6 (3 * a + k)) else S 32 (16 * (t - S 7 (3 * a + k)) + S 6 (3 * a + k))
def mm_ok1 (S : jx_M) (a k : Int) : Prop := (0 ≤ S 6 (3 * a + k) ∧ S 6 (3 * a + k) < 16) ∧ (0 ≤ S 7 (3 * a + k) ∧ S 7 (3 * a + k) ≤ 4)
def js_X13_value : jx_Sp := fun as g M Po => match as with
  | [(73, _, y), (0, _, a), (0, _, k), (0, _, t)] => ((0 ≤ a ∧ a < 16) ∧ (0 ≤ k ∧ k < 3) ∧ (0 ≤ t ∧ t ≤ 200) ∧ mm_ok1 (mY M y) a k) ∧ Po (1, 0, mm_val (mY M y) a k t) g M
  | _ => False
set_option maxHeartbeats 4000000 in
theorem jt_X13_value (l : Launch) : jx_Ct l yX13_value (ws_ yX13_value cX13_value 6 (some .long)) 0 0 0 js_X13_value := by
  refine jx_Ct_c (rc := 1) (by decide) rfl (fun D as g M Po hS => ?_)
  unfold js_X13_value at hS
  split at hS
  · rename_i n1 y n2 a n3 k n4 t
    obtain ⟨⟨h1, h2, h3, h4⟩, hP⟩ := hS
    simp only [mm_ok1, mY_j] at h4
    unfold mm_val at hP
    refine ⟨Nat.le_of_ble_eq_true rfl, ?_⟩
    refine jx_runL (o := jo_X13) (cs := []) (hf := jx_nh) jo_X13_ok jx_cs0 (jx_HK_nil rfl) (fun _ => false) 60 ?_
    simp only [jw, ju, jx_tg, Int.cast_ofNat_Int, Int.reduceAdd, Int.reduceToNat, Nat.reduceAdd, Nat.reduceMul, Nat.reduceBEq, Nat.reduceLeDiff, Int.reduceLE, Int.reduceLT, Int.reduceEq, Int.reduceNeg, Int.reduceSub, Int.reduceMul, not_false_eq_true, true_and, and_true, and_self, Bool.or_false, Bool.false_or, Bool.or_true, Bool.true_or, List.length_nil, List.length_cons, Nat.zero_le, or_true, true_or, Nat.le_refl, ↓reduceIte, Nat.reduceEqDiff, forall_const, false_and, and_false, false_implies, implies_true, not_true_eq_false, or_false, false_or, ne_eq, jd_X13_value, jf_X13]
    refine ⟨by omega, by omega, by omega, fun c => ⟨by omega, ?_⟩, fun c => ⟨by omega, ?_⟩⟩
    · rw [if_neg (show ¬ t - mY M y 7 (3 * a + k) < 0 by rw [mY_j]; omega)] at hP
      exact hP
    · rw [if_pos (show t - mY M y 7 (3 * a + k) < 0 by rw [mY_j]; omega)] at hP
      exact hP
  · exact hS.elim
/-- what an act of a turn takes, gives, and why it is refused -/
def mm_x (S : jx_M) (a t : Int) : Int := if S 1 a = 0 then S 9 a else mm_val S a 0 t
def mm_y (S : jx_M) (a t : Int) : Int := if S 6 (3 * a + 1) < 0 then 0 else mm_val S a 1 t
noncomputable def mm_dwhy (S : jx_M) (a t : Int) : Int := if S 1 a = 3 then (if mm_y S a t = 0 then -8 else 0) else @ite _ (S 1 a = 4 ∨ S 1 a = 5) (Classical.propDecidable _) (mm_why S (S 5 a) (mm_x S a t)) 0
def mm_dend (S : jx_M) (a t : Int) : Int := if S 1 a = 0 then mm_x S a t else if S 1 a = 1 then jx_ladd (mm_x S a t) (mm_y S a t) else if S 1 a = 2 then jx_lmul (mm_x S a t) (mm_y S a t) else if S 1 a = 3 then jx_ldiv (mm_x S a t) (mm_y S a t)
  else if S 1 a = 6 then (if mm_x S a t = 0 then mm_val S a 2 t else mm_y S a t) else S 19 (40 * S 5 a + mm_x S a t)
def mm_dput (S : jx_M) (a t : Int) : jx_M := jx_u (if S 1 a = 5 then jx_u S 19 (40 * S 5 a + mm_x S a t) (mm_y S a t) else S) 32 (16 * t + a) (mm_dend S a t)
noncomputable def mm_does (S : jx_M) (a t : Int) : mR := if mm_dwhy S a t = 0 then (0, mm_dput S a t) else (mm_dwhy S a t, S)
/-- an act that can work -/
def mm_act (S : jx_M) (a : Int) : Prop := (0 ≤ S 1 a ∧ S 1 a ≤ 6) ∧ ((S 1 a = 4 ∨ S 1 a = 5) → 0 ≤ S 5 a ∧ S 5 a < 8) ∧ (S 1 a ≠ 0 → mm_ok1 S a 0) ∧ (0 ≤ S 6 (3 * a + 1) → mm_ok1 S a 1) ∧ (S 1 a = 6 → mm_ok1 S a 2) ∧ ((S 1 a = 0 ∨ S 1 a = 4) → S 6 (3 * a + 1) = -1) ∧ (¬ (S 1 a = 0 ∨ S 1 a = 4) → 0 ≤ S 6 (3 * a + 1))
def js_X13_does : jx_Sp := fun as g M Po => match as with
  | [(73, _, y), (0, _, a), (0, _, t)] => ((0 ≤ a ∧ a < 16) ∧ (0 ≤ t ∧ t < 200) ∧ mm_act (mY M y) a ∧ mm_rows (mY M y)) ∧ ∀ M', mY M' y = (mm_does (mY M y) a t).2 → mFr y M M' → Po (0, 0, (mm_does (mY M y) a t).1) g M'
  | _ => False
theorem mm_does_0 {S : jx_M} {a t : Int} (h : mm_dwhy S a t = 0) : mm_does S a t = (0, mm_dput S a t) := if_pos h
theorem mm_does_n {S : jx_M} {a t : Int} (h : mm_dwhy S a t ≠ 0) : mm_does S a t = (mm_dwhy S a t, S) := if_neg h
def cs_X13_does : jx_Cs := [(837, 4, 0, 0, js_X13_value), (570, 2, 0, 0, js_X13_isOfRow), (762, 3, 0, 0, jp_X13_why)]
theorem hc_X13_does {D : jx_D} {l : Launch} : jx_CsOK D l "LoopLaneModel" 2 cs_X13_does := List.forall_mem_cons.mpr ⟨jc_X13_279 (jt_X13_value l) (fun as g M Po (h : js_X13_value as g M Po) => by unfold js_X13_value at h; split at h <;> first | exact h.elim | exact ⟨_, _, _, rfl, rfl⟩) (by decide), List.forall_mem_cons.mpr ⟨jc_X13_190 (jt_X13_isOfRow l) (fun as g M Po (h : js_X13_isOfRow as g M Po) => by unfold js_X13_isOfRow at h; split at h <;> first | exact h.elim | exact ⟨_, _, _, rfl, rfl⟩) (by decide), List.forall_mem_cons.mpr ⟨jc_X13_254 (jq_X13_why l) (fun as g M Po (h : jp_X13_why as g M Po) => by unfold jp_X13_why at h; split at h <;> first | exact h.elim | exact ⟨_, _, _, rfl, rfl⟩) (by decide), fun _ h => absurd h List.not_mem_nil⟩⟩⟩
set_option maxHeartbeats 4000000 in
theorem jt_X13_does (l : Launch) : jx_Ct l yX13_does (ws_ yX13_does cX13_does 11 (some .int)) 2 0 0 js_X13_does := by
  refine jx_Ct_c (rc := 0) (by decide) rfl (fun D as g M Po hS => ?_)
  unfold js_X13_does at hS
  split at hS
  · rename_i n1 y n2 a n3 t
    obtain ⟨⟨h1, h2, h3, h4⟩, hP⟩ := hS
    obtain ⟨a1, a2, a3, a4, a5, a6, a7⟩ := h3
    simp only [mY_j] at a1 a2 a6 a7
    refine ⟨Nat.le_of_ble_eq_true rfl, ?_⟩
    have fail : ∀ w : Int, mm_dwhy (mY M y) a t = w → w ≠ 0 → Po (0, 0, w) g M := fun w c1 c2 => by
      rw [mm_does_n (by omega), c1] at hP
      exact hP _ rfl mFr_rf
    have at228 : ∀ (X Y E W : Int) (P : jx_A) (M' : jx_M), mm_dwhy (mY M y) a t = 0 → mY (jx_u M' (y + 32) (16 * t + a) E) y = mm_dput (mY M y) a t → mFr y M M' → jx_V D l (yX13_does.cls, cX13_does, 11, 0, [], 2, 0, 0, yX13_does.name) Po 228 [(73, n1, y), (0, n2, a), (0, n3, t), (1, 0, X), (5, 0, 0), (1, 0, Y), (5, 0, 0), (1, 0, E), (5, 0, 0), (0, 0, W), P] [] (0, 0) g (M') := by
      intro X Y E W P M' c1 c2 c3
      refine jx_runL (o := jo_X13) (cs := cs_X13_does) (hf := jx_nh) jo_X13_ok hc_X13_does (jx_HK_nil rfl) (fun _ => false) 100 ?_
      simp only [jw, ju, jx_tg, Int.cast_ofNat_Int, Int.reduceAdd, Int.reduceToNat, Nat.reduceAdd, Nat.reduceMul, Nat.reduceBEq, Nat.reduceLeDiff, Int.reduceLE, Int.reduceLT, Int.reduceEq, Int.reduceNeg, Int.reduceSub, Int.reduceMul, not_false_eq_true, true_and, and_true, and_self, Bool.or_false, Bool.false_or, Bool.or_true, Bool.true_or, List.length_nil, List.length_cons, Nat.zero_le, or_true, true_or, Nat.le_refl, ↓reduceIte, Nat.reduceEqDiff, forall_const, false_and, and_false, false_implies, implies_true, not_true_eq_false, or_false, false_or, ne_eq, jd_X13_does, jf_X13, jp_X13_why, js_X13_isOfRow, js_X13_value, cs_X13_does, jx_ck_c]
      refine ⟨by omega, ?_⟩
      rw [mm_does_0 c1] at hP
      exact hP _ c2 (mFr_u c3 (by omega))
    have put : ∀ E : Int, mm_dend (mY M y) a t = E → M (y + 1) a ≠ 5 → mY (jx_u M (y + 32) (16 * t + a) E) y = mm_dput (mY M y) a t := fun E c1 c2 => by
      unfold mm_dput
      rw [mY_u, c1, if_neg (show ¬ mY M y 1 a = 5 from c2)]
    have at157 : ∀ X Y E : Int, X = mm_x (mY M y) a t → Y = mm_y (mY M y) a t → (¬ (M (y + 1) a = 4 ∨ M (y + 1) a = 5) → mm_dwhy (mY M y) a t = 0 ∧ mm_dend (mY M y) a t = E) → jx_V D l (yX13_does.cls, cX13_does, 11, 0, [], 2, 0, 0, yX13_does.name) Po 157 [(73, n1, y), (0, n2, a), (0, n3, t), (1, 0, X), (5, 0, 0), (1, 0, Y), (5, 0, 0), (1, 0, E), (5, 0, 0), (0, 0, 0), (5, 0, 0)] [] (0, 0) g (M) := by
      intro X Y E hX hY hE
      by_cases hr : M (y + 1) a = 4 ∨ M (y + 1) a = 5
      · have hw : mm_dwhy (mY M y) a t = mm_why (mY M y) (M (y + 5) a) X := by
          unfold mm_dwhy
          rw [if_neg (show ¬ mY M y 1 a = 3 by rw [mY_j]; omega), if_pos (show mY M y 1 a = 4 ∨ mY M y 1 a = 5 from hr), ← hX]
          rfl
        have hwr := @mm_why_r (mY M y) (M (y + 5) a) X
        have hsl := a2 hr
        have hro := h4 _ hsl.1 hsl.2
        simp only [mY_j] at hro
        refine jx_runL (o := jo_X13) (cs := cs_X13_does) (hf := jx_nh) jo_X13_ok hc_X13_does (jx_HK_nil rfl) (fun p => p == 186 || p == 228) 100 ?_
        simp only [jw, ju, jx_tg, Int.cast_ofNat_Int, Int.reduceAdd, Int.reduceToNat, Nat.reduceAdd, Nat.reduceMul, Nat.reduceBEq, Nat.reduceLeDiff, Int.reduceLE, Int.reduceLT, Int.reduceEq, Int.reduceNeg, Int.reduceSub, Int.reduceMul, not_false_eq_true, true_and, and_true, and_self, Bool.or_false, Bool.false_or, Bool.or_true, Bool.true_or, List.length_nil, List.length_cons, Nat.zero_le, or_true, true_or, Nat.le_refl, ↓reduceIte, Nat.reduceEqDiff, forall_const, false_and, and_false, false_implies, implies_true, not_true_eq_false, or_false, false_or, ne_eq, jd_X13_does, jf_X13, hr, jp_X13_why, js_X13_isOfRow, js_X13_value, cs_X13_does, jx_ck_c]
        refine ⟨h1, by omega, h1, ⟨hsl, h4⟩, by omega, fun c => ?_, fun c => fail _ hw c⟩
        have hz := mm_why_z c
        simp only [mY_j] at hz
        by_cases h5 : M (y + 1) a = 5
        · refine jx_runL (o := jo_X13) (cs := cs_X13_does) (hf := jx_nh) jo_X13_ok hc_X13_does (jx_HK_nil rfl) (fun p => p == 228) 100 ?_
          simp only [jw, ju, jx_tg, Int.cast_ofNat_Int, Int.reduceAdd, Int.reduceToNat, Nat.reduceAdd, Nat.reduceMul, Nat.reduceBEq, Nat.reduceLeDiff, Int.reduceLE, Int.reduceLT, Int.reduceEq, Int.reduceNeg, Int.reduceSub, Int.reduceMul, not_false_eq_true, true_and, and_true, and_self, Bool.or_false, Bool.false_or, Bool.or_true, Bool.true_or, List.length_nil, List.length_cons, Nat.zero_le, or_true, true_or, Nat.le_refl, ↓reduceIte, Nat.reduceEqDiff, forall_const, false_and, and_false, false_implies, implies_true, not_true_eq_false, or_false, false_or, ne_eq, jd_X13_does, jf_X13, h5, jp_X13_why, js_X13_isOfRow, js_X13_value, cs_X13_does, jx_ck_c]
          refine ⟨h1, by omega, h1, by omega, at228 _ _ _ _ _ _ (by omega) ?_ (mFr_u mFr_rf (by omega))⟩
          unfold mm_dput mm_dend
          rw [mY_u, mY_u, if_pos (show mY M y 1 a = 5 from h5), if_neg (show ¬ mY M y 1 a = 0 by rw [mY_j]; omega), if_neg (show ¬ mY M y 1 a = 1 by rw [mY_j]; omega), if_neg (show ¬ mY M y 1 a = 2 by rw [mY_j]; omega), if_neg (show ¬ mY M y 1 a = 3 by rw [mY_j]; omega), if_neg (show ¬ mY M y 1 a = 6 by rw [mY_j]; omega), ← hX, ← hY]
          rfl
        · have h4' : M (y + 1) a = 4 := by omega
          refine jx_runL (o := jo_X13) (cs := cs_X13_does) (hf := jx_nh) jo_X13_ok hc_X13_does (jx_HK_nil rfl) (fun p => p == 228) 100 ?_
          simp only [jw, ju, jx_tg, Int.cast_ofNat_Int, Int.reduceAdd, Int.reduceToNat, Nat.reduceAdd, Nat.reduceMul, Nat.reduceBEq, Nat.reduceLeDiff, Int.reduceLE, Int.reduceLT, Int.reduceEq, Int.reduceNeg, Int.reduceSub, Int.reduceMul, not_false_eq_true, true_and, and_true, and_self, Bool.or_false, Bool.false_or, Bool.or_true, Bool.true_or, List.length_nil, List.length_cons, Nat.zero_le, or_true, true_or, Nat.le_refl, ↓reduceIte, Nat.reduceEqDiff, forall_const, false_and, and_false, false_implies, implies_true, not_true_eq_false, or_false, false_or, ne_eq, jd_X13_does, jf_X13, h4', jp_X13_why, js_X13_isOfRow, js_X13_value, cs_X13_does, jx_ck_c]
          refine ⟨h1, by omega, h1, at228 _ _ _ _ _ _ (by omega) (put _ ?_ (by omega)) mFr_rf⟩
          unfold mm_dend
          rw [if_neg (show ¬ mY M y 1 a = 0 by rw [mY_j]; omega), if_neg (show ¬ mY M y 1 a = 1 by rw [mY_j]; omega), if_neg (show ¬ mY M y 1 a = 2 by rw [mY_j]; omega), if_neg (show ¬ mY M y 1 a = 3 by rw [mY_j]; omega), if_neg (show ¬ mY M y 1 a = 6 by rw [mY_j]; omega), ← hX]
          rfl
      · obtain ⟨k1, k2⟩ := hE hr
        refine jx_runL (o := jo_X13) (cs := cs_X13_does) (hf := jx_nh) jo_X13_ok hc_X13_does (jx_HK_nil rfl) (fun p => p == 228) 100 ?_
        simp only [jw, ju, jx_tg, Int.cast_ofNat_Int, Int.reduceAdd, Int.reduceToNat, Nat.reduceAdd, Nat.reduceMul, Nat.reduceBEq, Nat.reduceLeDiff, Int.reduceLE, Int.reduceLT, Int.reduceEq, Int.reduceNeg, Int.reduceSub, Int.reduceMul, not_false_eq_true, true_and, and_true, and_self, Bool.or_false, Bool.false_or, Bool.or_true, Bool.true_or, List.length_nil, List.length_cons, Nat.zero_le, or_true, true_or, Nat.le_refl, ↓reduceIte, Nat.reduceEqDiff, forall_const, false_and, and_false, false_implies, implies_true, not_true_eq_false, or_false, false_or, ne_eq, jd_X13_does, jf_X13, hr, jp_X13_why, js_X13_isOfRow, js_X13_value, cs_X13_does, jx_ck_c]
        exact ⟨h1, by omega, at228 _ _ _ _ _ _ k1 (put _ k2 (fun q => hr (Or.inr q))) mFr_rf⟩
    have dw0 : M (y + 1) a ≠ 3 → ¬ (M (y + 1) a = 4 ∨ M (y + 1) a = 5) → mm_dwhy (mY M y) a t = 0 := fun c1 c2 => by
      unfold mm_dwhy
      rw [if_neg (show ¬ mY M y 1 a = 3 from c1), if_neg (show ¬ (mY M y 1 a = 4 ∨ mY M y 1 a = 5) from c2)]
    have at58 : ∀ X Y : Int, X = mm_x (mY M y) a t → Y = mm_y (mY M y) a t → jx_V D l (yX13_does.cls, cX13_does, 11, 0, [], 2, 0, 0, yX13_does.name) Po 58 [(73, n1, y), (0, n2, a), (0, n3, t), (1, 0, X), (5, 0, 0), (1, 0, Y), (5, 0, 0), (1, 0, X), (5, 0, 0), (0, 0, 0), (5, 0, 0)] [] (0, 0) g (M) := by
      intro X Y hX hY
      rcases (show M (y + 1) a = 0 ∨ M (y + 1) a = 1 ∨ M (y + 1) a = 2 ∨ M (y + 1) a = 3 ∨ M (y + 1) a = 4 ∨ M (y + 1) a = 5 ∨ M (y + 1) a = 6 by omega) with hs | hs | hs | hs | hs | hs | hs
      · refine jx_runL (o := jo_X13) (cs := cs_X13_does) (hf := jx_nh) jo_X13_ok hc_X13_does (jx_HK_nil rfl) (fun p => p == 74) 100 ?_
        simp only [jw, ju, jx_tg, Int.cast_ofNat_Int, Int.reduceAdd, Int.reduceToNat, Nat.reduceAdd, Nat.reduceMul, Nat.reduceBEq, Nat.reduceLeDiff, Int.reduceLE, Int.reduceLT, Int.reduceEq, Int.reduceNeg, Int.reduceSub, Int.reduceMul, not_false_eq_true, true_and, and_true, and_self, Bool.or_false, Bool.false_or, Bool.or_true, Bool.true_or, List.length_nil, List.length_cons, Nat.zero_le, or_true, true_or, Nat.le_refl, ↓reduceIte, Nat.reduceEqDiff, forall_const, false_and, and_false, false_implies, implies_true, not_true_eq_false, or_false, false_or, ne_eq, jd_X13_does, jf_X13, hs, jp_X13_why, js_X13_isOfRow, js_X13_value, cs_X13_does, jx_ck_c]
        refine ⟨h1, ?_⟩
        refine jx_runL (o := jo_X13) (cs := cs_X13_does) (hf := jx_nh) jo_X13_ok hc_X13_does (jx_HK_nil rfl) (fun p => p == 90) 100 ?_
        simp only [jw, ju, jx_tg, Int.cast_ofNat_Int, Int.reduceAdd, Int.reduceToNat, Nat.reduceAdd, Nat.reduceMul, Nat.reduceBEq, Nat.reduceLeDiff, Int.reduceLE, Int.reduceLT, Int.reduceEq, Int.reduceNeg, Int.reduceSub, Int.reduceMul, not_false_eq_true, true_and, and_true, and_self, Bool.or_false, Bool.false_or, Bool.or_true, Bool.true_or, List.length_nil, List.length_cons, Nat.zero_le, or_true, true_or, Nat.le_refl, ↓reduceIte, Nat.reduceEqDiff, forall_const, false_and, and_false, false_implies, implies_true, not_true_eq_false, or_false, false_or, ne_eq, jd_X13_does, jf_X13, hs, jp_X13_why, js_X13_isOfRow, js_X13_value, cs_X13_does, jx_ck_c]
        refine ⟨h1, ?_⟩
        refine jx_runL (o := jo_X13) (cs := cs_X13_does) (hf := jx_nh) jo_X13_ok hc_X13_does (jx_HK_nil rfl) (fun p => p == 121) 100 ?_
        simp only [jw, ju, jx_tg, Int.cast_ofNat_Int, Int.reduceAdd, Int.reduceToNat, Nat.reduceAdd, Nat.reduceMul, Nat.reduceBEq, Nat.reduceLeDiff, Int.reduceLE, Int.reduceLT, Int.reduceEq, Int.reduceNeg, Int.reduceSub, Int.reduceMul, not_false_eq_true, true_and, and_true, and_self, Bool.or_false, Bool.false_or, Bool.or_true, Bool.true_or, List.length_nil, List.length_cons, Nat.zero_le, or_true, true_or, Nat.le_refl, ↓reduceIte, Nat.reduceEqDiff, forall_const, false_and, and_false, false_implies, implies_true, not_true_eq_false, or_false, false_or, ne_eq, jd_X13_does, jf_X13, hs, jp_X13_why, js_X13_isOfRow, js_X13_value, cs_X13_does, jx_ck_c]
        refine ⟨h1, ?_⟩
        refine jx_runL (o := jo_X13) (cs := cs_X13_does) (hf := jx_nh) jo_X13_ok hc_X13_does (jx_HK_nil rfl) (fun p => p == 141) 100 ?_
        simp only [jw, ju, jx_tg, Int.cast_ofNat_Int, Int.reduceAdd, Int.reduceToNat, Nat.reduceAdd, Nat.reduceMul, Nat.reduceBEq, Nat.reduceLeDiff, Int.reduceLE, Int.reduceLT, Int.reduceEq, Int.reduceNeg, Int.reduceSub, Int.reduceMul, not_false_eq_true, true_and, and_true, and_self, Bool.or_false, Bool.false_or, Bool.or_true, Bool.true_or, List.length_nil, List.length_cons, Nat.zero_le, or_true, true_or, Nat.le_refl, ↓reduceIte, Nat.reduceEqDiff, forall_const, false_and, and_false, false_implies, implies_true, not_true_eq_false, or_false, false_or, ne_eq, jd_X13_does, jf_X13, hs, jp_X13_why, js_X13_isOfRow, js_X13_value, cs_X13_does, jx_ck_c]
        refine ⟨h1, ?_⟩
        refine jx_runL (o := jo_X13) (cs := cs_X13_does) (hf := jx_nh) jo_X13_ok hc_X13_does (jx_HK_nil rfl) (fun p => p == 157) 100 ?_
        simp only [jw, ju, jx_tg, Int.cast_ofNat_Int, Int.reduceAdd, Int.reduceToNat, Nat.reduceAdd, Nat.reduceMul, Nat.reduceBEq, Nat.reduceLeDiff, Int.reduceLE, Int.reduceLT, Int.reduceEq, Int.reduceNeg, Int.reduceSub, Int.reduceMul, not_false_eq_true, true_and, and_true, and_self, Bool.or_false, Bool.false_or, Bool.or_true, Bool.true_or, List.length_nil, List.length_cons, Nat.zero_le, or_true, true_or, Nat.le_refl, ↓reduceIte, Nat.reduceEqDiff, forall_const, false_and, and_false, false_implies, implies_true, not_true_eq_false, or_false, false_or, ne_eq, jd_X13_does, jf_X13, hs, jp_X13_why, js_X13_isOfRow, js_X13_value, cs_X13_does, jx_ck_c]
        refine ⟨h1, ?_⟩
        refine at157 _ _ _ hX hY (fun c => ⟨dw0 (by omega) (by omega), ?_⟩)
        unfold mm_dend
        rw [if_pos (show mY M y 1 a = 0 from hs), ← hX]
      · refine jx_runL (o := jo_X13) (cs := cs_X13_does) (hf := jx_nh) jo_X13_ok hc_X13_does (jx_HK_nil rfl) (fun p => p == 74) 100 ?_
        simp only [jw, ju, jx_tg, Int.cast_ofNat_Int, Int.reduceAdd, Int.reduceToNat, Nat.reduceAdd, Nat.reduceMul, Nat.reduceBEq, Nat.reduceLeDiff, Int.reduceLE, Int.reduceLT, Int.reduceEq, Int.reduceNeg, Int.reduceSub, Int.reduceMul, not_false_eq_true, true_and, and_true, and_self, Bool.or_false, Bool.false_or, Bool.or_true, Bool.true_or, List.length_nil, List.length_cons, Nat.zero_le, or_true, true_or, Nat.le_refl, ↓reduceIte, Nat.reduceEqDiff, forall_const, false_and, and_false, false_implies, implies_true, not_true_eq_false, or_false, false_or, ne_eq, jd_X13_does, jf_X13, hs, jp_X13_why, js_X13_isOfRow, js_X13_value, cs_X13_does, jx_ck_c]
        refine ⟨h1, ?_⟩
        refine jx_runL (o := jo_X13) (cs := cs_X13_does) (hf := jx_nh) jo_X13_ok hc_X13_does (jx_HK_nil rfl) (fun p => p == 90) 100 ?_
        simp only [jw, ju, jx_tg, Int.cast_ofNat_Int, Int.reduceAdd, Int.reduceToNat, Nat.reduceAdd, Nat.reduceMul, Nat.reduceBEq, Nat.reduceLeDiff, Int.reduceLE, Int.reduceLT, Int.reduceEq, Int.reduceNeg, Int.reduceSub, Int.reduceMul, not_false_eq_true, true_and, and_true, and_self, Bool.or_false, Bool.false_or, Bool.or_true, Bool.true_or, List.length_nil, List.length_cons, Nat.zero_le, or_true, true_or, Nat.le_refl, ↓reduceIte, Nat.reduceEqDiff, forall_const, false_and, and_false, false_implies, implies_true, not_true_eq_false, or_false, false_or, ne_eq, jd_X13_does, jf_X13, hs, jp_X13_why, js_X13_isOfRow, js_X13_value, cs_X13_does, jx_ck_c]
        refine ⟨h1, ?_⟩
        refine jx_runL (o := jo_X13) (cs := cs_X13_does) (hf := jx_nh) jo_X13_ok hc_X13_does (jx_HK_nil rfl) (fun p => p == 121) 100 ?_
        simp only [jw, ju, jx_tg, Int.cast_ofNat_Int, Int.reduceAdd, Int.reduceToNat, Nat.reduceAdd, Nat.reduceMul, Nat.reduceBEq, Nat.reduceLeDiff, Int.reduceLE, Int.reduceLT, Int.reduceEq, Int.reduceNeg, Int.reduceSub, Int.reduceMul, not_false_eq_true, true_and, and_true, and_self, Bool.or_false, Bool.false_or, Bool.or_true, Bool.true_or, List.length_nil, List.length_cons, Nat.zero_le, or_true, true_or, Nat.le_refl, ↓reduceIte, Nat.reduceEqDiff, forall_const, false_and, and_false, false_implies, implies_true, not_true_eq_false, or_false, false_or, ne_eq, jd_X13_does, jf_X13, hs, jp_X13_why, js_X13_isOfRow, js_X13_value, cs_X13_does, jx_ck_c]
        refine ⟨h1, ?_⟩
        refine jx_runL (o := jo_X13) (cs := cs_X13_does) (hf := jx_nh) jo_X13_ok hc_X13_does (jx_HK_nil rfl) (fun p => p == 141) 100 ?_
        simp only [jw, ju, jx_tg, Int.cast_ofNat_Int, Int.reduceAdd, Int.reduceToNat, Nat.reduceAdd, Nat.reduceMul, Nat.reduceBEq, Nat.reduceLeDiff, Int.reduceLE, Int.reduceLT, Int.reduceEq, Int.reduceNeg, Int.reduceSub, Int.reduceMul, not_false_eq_true, true_and, and_true, and_self, Bool.or_false, Bool.false_or, Bool.or_true, Bool.true_or, List.length_nil, List.length_cons, Nat.zero_le, or_true, true_or, Nat.le_refl, ↓reduceIte, Nat.reduceEqDiff, forall_const, false_and, and_false, false_implies, implies_true, not_true_eq_false, or_false, false_or, ne_eq, jd_X13_does, jf_X13, hs, jp_X13_why, js_X13_isOfRow, js_X13_value, cs_X13_does, jx_ck_c]
        refine ⟨h1, ?_⟩
        refine jx_runL (o := jo_X13) (cs := cs_X13_does) (hf := jx_nh) jo_X13_ok hc_X13_does (jx_HK_nil rfl) (fun p => p == 157) 100 ?_
        simp only [jw, ju, jx_tg, Int.cast_ofNat_Int, Int.reduceAdd, Int.reduceToNat, Nat.reduceAdd, Nat.reduceMul, Nat.reduceBEq, Nat.reduceLeDiff, Int.reduceLE, Int.reduceLT, Int.reduceEq, Int.reduceNeg, Int.reduceSub, Int.reduceMul, not_false_eq_true, true_and, and_true, and_self, Bool.or_false, Bool.false_or, Bool.or_true, Bool.true_or, List.length_nil, List.length_cons, Nat.zero_le, or_true, true_or, Nat.le_refl, ↓reduceIte, Nat.reduceEqDiff, forall_const, false_and, and_false, false_implies, implies_true, not_true_eq_false, or_false, false_or, ne_eq, jd_X13_does, jf_X13, hs, jp_X13_why, js_X13_isOfRow, js_X13_value, cs_X13_does, jx_ck_c]
        refine ⟨h1, ?_⟩
        refine at157 _ _ _ hX hY (fun c => ⟨dw0 (by omega) (by omega), ?_⟩)
        unfold mm_dend
        rw [if_neg (show ¬ mY M y 1 a = 0 by rw [mY_j]; omega), if_pos (show mY M y 1 a = 1 from hs), ← hX, ← hY]
      · refine jx_runL (o := jo_X13) (cs := cs_X13_does) (hf := jx_nh) jo_X13_ok hc_X13_does (jx_HK_nil rfl) (fun p => p == 74) 100 ?_
        simp only [jw, ju, jx_tg, Int.cast_ofNat_Int, Int.reduceAdd, Int.reduceToNat, Nat.reduceAdd, Nat.reduceMul, Nat.reduceBEq, Nat.reduceLeDiff, Int.reduceLE, Int.reduceLT, Int.reduceEq, Int.reduceNeg, Int.reduceSub, Int.reduceMul, not_false_eq_true, true_and, and_true, and_self, Bool.or_false, Bool.false_or, Bool.or_true, Bool.true_or, List.length_nil, List.length_cons, Nat.zero_le, or_true, true_or, Nat.le_refl, ↓reduceIte, Nat.reduceEqDiff, forall_const, false_and, and_false, false_implies, implies_true, not_true_eq_false, or_false, false_or, ne_eq, jd_X13_does, jf_X13, hs, jp_X13_why, js_X13_isOfRow, js_X13_value, cs_X13_does, jx_ck_c]
        refine ⟨h1, ?_⟩
        refine jx_runL (o := jo_X13) (cs := cs_X13_does) (hf := jx_nh) jo_X13_ok hc_X13_does (jx_HK_nil rfl) (fun p => p == 90) 100 ?_
        simp only [jw, ju, jx_tg, Int.cast_ofNat_Int, Int.reduceAdd, Int.reduceToNat, Nat.reduceAdd, Nat.reduceMul, Nat.reduceBEq, Nat.reduceLeDiff, Int.reduceLE, Int.reduceLT, Int.reduceEq, Int.reduceNeg, Int.reduceSub, Int.reduceMul, not_false_eq_true, true_and, and_true, and_self, Bool.or_false, Bool.false_or, Bool.or_true, Bool.true_or, List.length_nil, List.length_cons, Nat.zero_le, or_true, true_or, Nat.le_refl, ↓reduceIte, Nat.reduceEqDiff, forall_const, false_and, and_false, false_implies, implies_true, not_true_eq_false, or_false, false_or, ne_eq, jd_X13_does, jf_X13, hs, jp_X13_why, js_X13_isOfRow, js_X13_value, cs_X13_does, jx_ck_c]
        refine ⟨h1, ?_⟩
        refine jx_runL (o := jo_X13) (cs := cs_X13_does) (hf := jx_nh) jo_X13_ok hc_X13_does (jx_HK_nil rfl) (fun p => p == 121) 100 ?_
        simp only [jw, ju, jx_tg, Int.cast_ofNat_Int, Int.reduceAdd, Int.reduceToNat, Nat.reduceAdd, Nat.reduceMul, Nat.reduceBEq, Nat.reduceLeDiff, Int.reduceLE, Int.reduceLT, Int.reduceEq, Int.reduceNeg, Int.reduceSub, Int.reduceMul, not_false_eq_true, true_and, and_true, and_self, Bool.or_false, Bool.false_or, Bool.or_true, Bool.true_or, List.length_nil, List.length_cons, Nat.zero_le, or_true, true_or, Nat.le_refl, ↓reduceIte, Nat.reduceEqDiff, forall_const, false_and, and_false, false_implies, implies_true, not_true_eq_false, or_false, false_or, ne_eq, jd_X13_does, jf_X13, hs, jp_X13_why, js_X13_isOfRow, js_X13_value, cs_X13_does, jx_ck_c]
        refine ⟨h1, ?_⟩
        refine jx_runL (o := jo_X13) (cs := cs_X13_does) (hf := jx_nh) jo_X13_ok hc_X13_does (jx_HK_nil rfl) (fun p => p == 141) 100 ?_
        simp only [jw, ju, jx_tg, Int.cast_ofNat_Int, Int.reduceAdd, Int.reduceToNat, Nat.reduceAdd, Nat.reduceMul, Nat.reduceBEq, Nat.reduceLeDiff, Int.reduceLE, Int.reduceLT, Int.reduceEq, Int.reduceNeg, Int.reduceSub, Int.reduceMul, not_false_eq_true, true_and, and_true, and_self, Bool.or_false, Bool.false_or, Bool.or_true, Bool.true_or, List.length_nil, List.length_cons, Nat.zero_le, or_true, true_or, Nat.le_refl, ↓reduceIte, Nat.reduceEqDiff, forall_const, false_and, and_false, false_implies, implies_true, not_true_eq_false, or_false, false_or, ne_eq, jd_X13_does, jf_X13, hs, jp_X13_why, js_X13_isOfRow, js_X13_value, cs_X13_does, jx_ck_c]
        refine ⟨h1, ?_⟩
        refine jx_runL (o := jo_X13) (cs := cs_X13_does) (hf := jx_nh) jo_X13_ok hc_X13_does (jx_HK_nil rfl) (fun p => p == 157) 100 ?_
        simp only [jw, ju, jx_tg, Int.cast_ofNat_Int, Int.reduceAdd, Int.reduceToNat, Nat.reduceAdd, Nat.reduceMul, Nat.reduceBEq, Nat.reduceLeDiff, Int.reduceLE, Int.reduceLT, Int.reduceEq, Int.reduceNeg, Int.reduceSub, Int.reduceMul, not_false_eq_true, true_and, and_true, and_self, Bool.or_false, Bool.false_or, Bool.or_true, Bool.true_or, List.length_nil, List.length_cons, Nat.zero_le, or_true, true_or, Nat.le_refl, ↓reduceIte, Nat.reduceEqDiff, forall_const, false_and, and_false, false_implies, implies_true, not_true_eq_false, or_false, false_or, ne_eq, jd_X13_does, jf_X13, hs, jp_X13_why, js_X13_isOfRow, js_X13_value, cs_X13_does, jx_ck_c]
        refine ⟨h1, ?_⟩
        refine at157 _ _ _ hX hY (fun c => ⟨dw0 (by omega) (by omega), ?_⟩)
        unfold mm_dend
        rw [if_neg (show ¬ mY M y 1 a = 0 by rw [mY_j]; omega), if_neg (show ¬ mY M y 1 a = 1 by rw [mY_j]; omega), if_pos (show mY M y 1 a = 2 from hs), ← hX, ← hY]
      · refine jx_runL (o := jo_X13) (cs := cs_X13_does) (hf := jx_nh) jo_X13_ok hc_X13_does (jx_HK_nil rfl) (fun p => p == 74) 100 ?_
        simp only [jw, ju, jx_tg, Int.cast_ofNat_Int, Int.reduceAdd, Int.reduceToNat, Nat.reduceAdd, Nat.reduceMul, Nat.reduceBEq, Nat.reduceLeDiff, Int.reduceLE, Int.reduceLT, Int.reduceEq, Int.reduceNeg, Int.reduceSub, Int.reduceMul, not_false_eq_true, true_and, and_true, and_self, Bool.or_false, Bool.false_or, Bool.or_true, Bool.true_or, List.length_nil, List.length_cons, Nat.zero_le, or_true, true_or, Nat.le_refl, ↓reduceIte, Nat.reduceEqDiff, forall_const, false_and, and_false, false_implies, implies_true, not_true_eq_false, or_false, false_or, ne_eq, jd_X13_does, jf_X13, hs, jp_X13_why, js_X13_isOfRow, js_X13_value, cs_X13_does, jx_ck_c]
        refine ⟨h1, ?_⟩
        refine jx_runL (o := jo_X13) (cs := cs_X13_does) (hf := jx_nh) jo_X13_ok hc_X13_does (jx_HK_nil rfl) (fun p => p == 90) 100 ?_
        simp only [jw, ju, jx_tg, Int.cast_ofNat_Int, Int.reduceAdd, Int.reduceToNat, Nat.reduceAdd, Nat.reduceMul, Nat.reduceBEq, Nat.reduceLeDiff, Int.reduceLE, Int.reduceLT, Int.reduceEq, Int.reduceNeg, Int.reduceSub, Int.reduceMul, not_false_eq_true, true_and, and_true, and_self, Bool.or_false, Bool.false_or, Bool.or_true, Bool.true_or, List.length_nil, List.length_cons, Nat.zero_le, or_true, true_or, Nat.le_refl, ↓reduceIte, Nat.reduceEqDiff, forall_const, false_and, and_false, false_implies, implies_true, not_true_eq_false, or_false, false_or, ne_eq, jd_X13_does, jf_X13, hs, jp_X13_why, js_X13_isOfRow, js_X13_value, cs_X13_does, jx_ck_c]
        refine ⟨h1, ?_⟩
        refine jx_runL (o := jo_X13) (cs := cs_X13_does) (hf := jx_nh) jo_X13_ok hc_X13_does (jx_HK_nil rfl) (fun p => p == 121) 100 ?_
        simp only [jw, ju, jx_tg, Int.cast_ofNat_Int, Int.reduceAdd, Int.reduceToNat, Nat.reduceAdd, Nat.reduceMul, Nat.reduceBEq, Nat.reduceLeDiff, Int.reduceLE, Int.reduceLT, Int.reduceEq, Int.reduceNeg, Int.reduceSub, Int.reduceMul, not_false_eq_true, true_and, and_true, and_self, Bool.or_false, Bool.false_or, Bool.or_true, Bool.true_or, List.length_nil, List.length_cons, Nat.zero_le, or_true, true_or, Nat.le_refl, ↓reduceIte, Nat.reduceEqDiff, forall_const, false_and, and_false, false_implies, implies_true, not_true_eq_false, or_false, false_or, ne_eq, jd_X13_does, jf_X13, hs, jp_X13_why, js_X13_isOfRow, js_X13_value, cs_X13_does, jx_ck_c]
        refine ⟨h1, ?_⟩
        refine jx_runL (o := jo_X13) (cs := cs_X13_does) (hf := jx_nh) jo_X13_ok hc_X13_does (jx_HK_nil rfl) (fun p => p == 141) 100 ?_
        simp only [jw, ju, jx_tg, Int.cast_ofNat_Int, Int.reduceAdd, Int.reduceToNat, Nat.reduceAdd, Nat.reduceMul, Nat.reduceBEq, Nat.reduceLeDiff, Int.reduceLE, Int.reduceLT, Int.reduceEq, Int.reduceNeg, Int.reduceSub, Int.reduceMul, not_false_eq_true, true_and, and_true, and_self, Bool.or_false, Bool.false_or, Bool.or_true, Bool.true_or, List.length_nil, List.length_cons, Nat.zero_le, or_true, true_or, Nat.le_refl, ↓reduceIte, Nat.reduceEqDiff, forall_const, false_and, and_false, false_implies, implies_true, not_true_eq_false, or_false, false_or, ne_eq, jd_X13_does, jf_X13, hs, jx_cmp_eq, jp_X13_why, js_X13_isOfRow, js_X13_value, cs_X13_does, jx_ck_c]
        have q6 := @jx_cmp_r Y 0
        refine ⟨h1, by omega, fun c => ?_, fun c => fail (-8) ?_ (by decide)⟩
        · refine jx_runL (o := jo_X13) (cs := cs_X13_does) (hf := jx_nh) jo_X13_ok hc_X13_does (jx_HK_nil rfl) (fun p => p == 157) 100 ?_
          simp only [jw, ju, jx_tg, Int.cast_ofNat_Int, Int.reduceAdd, Int.reduceToNat, Nat.reduceAdd, Nat.reduceMul, Nat.reduceBEq, Nat.reduceLeDiff, Int.reduceLE, Int.reduceLT, Int.reduceEq, Int.reduceNeg, Int.reduceSub, Int.reduceMul, not_false_eq_true, true_and, and_true, and_self, Bool.or_false, Bool.false_or, Bool.or_true, Bool.true_or, List.length_nil, List.length_cons, Nat.zero_le, or_true, true_or, Nat.le_refl, ↓reduceIte, Nat.reduceEqDiff, forall_const, false_and, and_false, false_implies, implies_true, not_true_eq_false, or_false, false_or, ne_eq, jd_X13_does, jf_X13, hs, jp_X13_why, js_X13_isOfRow, js_X13_value, cs_X13_does, jx_ck_c]
          refine ⟨h1, c, at157 _ _ _ hX hY (fun c' => ⟨?_, ?_⟩)⟩
          · unfold mm_dwhy
            rw [if_pos (show mY M y 1 a = 3 from hs), ← hY, if_neg c]
          · unfold mm_dend
            rw [if_neg (show ¬ mY M y 1 a = 0 by rw [mY_j]; omega), if_neg (show ¬ mY M y 1 a = 1 by rw [mY_j]; omega), if_neg (show ¬ mY M y 1 a = 2 by rw [mY_j]; omega), if_pos (show mY M y 1 a = 3 from hs), ← hX, ← hY]
        · unfold mm_dwhy
          rw [if_pos (show mY M y 1 a = 3 from hs), ← hY, if_pos (by omega)]
      · refine jx_runL (o := jo_X13) (cs := cs_X13_does) (hf := jx_nh) jo_X13_ok hc_X13_does (jx_HK_nil rfl) (fun p => p == 74) 100 ?_
        simp only [jw, ju, jx_tg, Int.cast_ofNat_Int, Int.reduceAdd, Int.reduceToNat, Nat.reduceAdd, Nat.reduceMul, Nat.reduceBEq, Nat.reduceLeDiff, Int.reduceLE, Int.reduceLT, Int.reduceEq, Int.reduceNeg, Int.reduceSub, Int.reduceMul, not_false_eq_true, true_and, and_true, and_self, Bool.or_false, Bool.false_or, Bool.or_true, Bool.true_or, List.length_nil, List.length_cons, Nat.zero_le, or_true, true_or, Nat.le_refl, ↓reduceIte, Nat.reduceEqDiff, forall_const, false_and, and_false, false_implies, implies_true, not_true_eq_false, or_false, false_or, ne_eq, jd_X13_does, jf_X13, hs, jp_X13_why, js_X13_isOfRow, js_X13_value, cs_X13_does, jx_ck_c]
        refine ⟨h1, ?_⟩
        refine jx_runL (o := jo_X13) (cs := cs_X13_does) (hf := jx_nh) jo_X13_ok hc_X13_does (jx_HK_nil rfl) (fun p => p == 90) 100 ?_
        simp only [jw, ju, jx_tg, Int.cast_ofNat_Int, Int.reduceAdd, Int.reduceToNat, Nat.reduceAdd, Nat.reduceMul, Nat.reduceBEq, Nat.reduceLeDiff, Int.reduceLE, Int.reduceLT, Int.reduceEq, Int.reduceNeg, Int.reduceSub, Int.reduceMul, not_false_eq_true, true_and, and_true, and_self, Bool.or_false, Bool.false_or, Bool.or_true, Bool.true_or, List.length_nil, List.length_cons, Nat.zero_le, or_true, true_or, Nat.le_refl, ↓reduceIte, Nat.reduceEqDiff, forall_const, false_and, and_false, false_implies, implies_true, not_true_eq_false, or_false, false_or, ne_eq, jd_X13_does, jf_X13, hs, jp_X13_why, js_X13_isOfRow, js_X13_value, cs_X13_does, jx_ck_c]
        refine ⟨h1, ?_⟩
        refine jx_runL (o := jo_X13) (cs := cs_X13_does) (hf := jx_nh) jo_X13_ok hc_X13_does (jx_HK_nil rfl) (fun p => p == 121) 100 ?_
        simp only [jw, ju, jx_tg, Int.cast_ofNat_Int, Int.reduceAdd, Int.reduceToNat, Nat.reduceAdd, Nat.reduceMul, Nat.reduceBEq, Nat.reduceLeDiff, Int.reduceLE, Int.reduceLT, Int.reduceEq, Int.reduceNeg, Int.reduceSub, Int.reduceMul, not_false_eq_true, true_and, and_true, and_self, Bool.or_false, Bool.false_or, Bool.or_true, Bool.true_or, List.length_nil, List.length_cons, Nat.zero_le, or_true, true_or, Nat.le_refl, ↓reduceIte, Nat.reduceEqDiff, forall_const, false_and, and_false, false_implies, implies_true, not_true_eq_false, or_false, false_or, ne_eq, jd_X13_does, jf_X13, hs, jp_X13_why, js_X13_isOfRow, js_X13_value, cs_X13_does, jx_ck_c]
        refine ⟨h1, ?_⟩
        refine jx_runL (o := jo_X13) (cs := cs_X13_does) (hf := jx_nh) jo_X13_ok hc_X13_does (jx_HK_nil rfl) (fun p => p == 141) 100 ?_
        simp only [jw, ju, jx_tg, Int.cast_ofNat_Int, Int.reduceAdd, Int.reduceToNat, Nat.reduceAdd, Nat.reduceMul, Nat.reduceBEq, Nat.reduceLeDiff, Int.reduceLE, Int.reduceLT, Int.reduceEq, Int.reduceNeg, Int.reduceSub, Int.reduceMul, not_false_eq_true, true_and, and_true, and_self, Bool.or_false, Bool.false_or, Bool.or_true, Bool.true_or, List.length_nil, List.length_cons, Nat.zero_le, or_true, true_or, Nat.le_refl, ↓reduceIte, Nat.reduceEqDiff, forall_const, false_and, and_false, false_implies, implies_true, not_true_eq_false, or_false, false_or, ne_eq, jd_X13_does, jf_X13, hs, jp_X13_why, js_X13_isOfRow, js_X13_value, cs_X13_does, jx_ck_c]
        refine ⟨h1, ?_⟩
        refine jx_runL (o := jo_X13) (cs := cs_X13_does) (hf := jx_nh) jo_X13_ok hc_X13_does (jx_HK_nil rfl) (fun p => p == 157) 100 ?_
        simp only [jw, ju, jx_tg, Int.cast_ofNat_Int, Int.reduceAdd, Int.reduceToNat, Nat.reduceAdd, Nat.reduceMul, Nat.reduceBEq, Nat.reduceLeDiff, Int.reduceLE, Int.reduceLT, Int.reduceEq, Int.reduceNeg, Int.reduceSub, Int.reduceMul, not_false_eq_true, true_and, and_true, and_self, Bool.or_false, Bool.false_or, Bool.or_true, Bool.true_or, List.length_nil, List.length_cons, Nat.zero_le, or_true, true_or, Nat.le_refl, ↓reduceIte, Nat.reduceEqDiff, forall_const, false_and, and_false, false_implies, implies_true, not_true_eq_false, or_false, false_or, ne_eq, jd_X13_does, jf_X13, hs, jp_X13_why, js_X13_isOfRow, js_X13_value, cs_X13_does, jx_ck_c]
        refine ⟨h1, ?_⟩
        exact at157 _ _ _ hX hY (fun c => absurd (by omega) c)
      · refine jx_runL (o := jo_X13) (cs := cs_X13_does) (hf := jx_nh) jo_X13_ok hc_X13_does (jx_HK_nil rfl) (fun p => p == 74) 100 ?_
        simp only [jw, ju, jx_tg, Int.cast_ofNat_Int, Int.reduceAdd, Int.reduceToNat, Nat.reduceAdd, Nat.reduceMul, Nat.reduceBEq, Nat.reduceLeDiff, Int.reduceLE, Int.reduceLT, Int.reduceEq, Int.reduceNeg, Int.reduceSub, Int.reduceMul, not_false_eq_true, true_and, and_true, and_self, Bool.or_false, Bool.false_or, Bool.or_true, Bool.true_or, List.length_nil, List.length_cons, Nat.zero_le, or_true, true_or, Nat.le_refl, ↓reduceIte, Nat.reduceEqDiff, forall_const, false_and, and_false, false_implies, implies_true, not_true_eq_false, or_false, false_or, ne_eq, jd_X13_does, jf_X13, hs, jp_X13_why, js_X13_isOfRow, js_X13_value, cs_X13_does, jx_ck_c]
        refine ⟨h1, ?_⟩
        refine jx_runL (o := jo_X13) (cs := cs_X13_does) (hf := jx_nh) jo_X13_ok hc_X13_does (jx_HK_nil rfl) (fun p => p == 90) 100 ?_
        simp only [jw, ju, jx_tg, Int.cast_ofNat_Int, Int.reduceAdd, Int.reduceToNat, Nat.reduceAdd, Nat.reduceMul, Nat.reduceBEq, Nat.reduceLeDiff, Int.reduceLE, Int.reduceLT, Int.reduceEq, Int.reduceNeg, Int.reduceSub, Int.reduceMul, not_false_eq_true, true_and, and_true, and_self, Bool.or_false, Bool.false_or, Bool.or_true, Bool.true_or, List.length_nil, List.length_cons, Nat.zero_le, or_true, true_or, Nat.le_refl, ↓reduceIte, Nat.reduceEqDiff, forall_const, false_and, and_false, false_implies, implies_true, not_true_eq_false, or_false, false_or, ne_eq, jd_X13_does, jf_X13, hs, jp_X13_why, js_X13_isOfRow, js_X13_value, cs_X13_does, jx_ck_c]
        refine ⟨h1, ?_⟩
        refine jx_runL (o := jo_X13) (cs := cs_X13_does) (hf := jx_nh) jo_X13_ok hc_X13_does (jx_HK_nil rfl) (fun p => p == 121) 100 ?_
        simp only [jw, ju, jx_tg, Int.cast_ofNat_Int, Int.reduceAdd, Int.reduceToNat, Nat.reduceAdd, Nat.reduceMul, Nat.reduceBEq, Nat.reduceLeDiff, Int.reduceLE, Int.reduceLT, Int.reduceEq, Int.reduceNeg, Int.reduceSub, Int.reduceMul, not_false_eq_true, true_and, and_true, and_self, Bool.or_false, Bool.false_or, Bool.or_true, Bool.true_or, List.length_nil, List.length_cons, Nat.zero_le, or_true, true_or, Nat.le_refl, ↓reduceIte, Nat.reduceEqDiff, forall_const, false_and, and_false, false_implies, implies_true, not_true_eq_false, or_false, false_or, ne_eq, jd_X13_does, jf_X13, hs, jp_X13_why, js_X13_isOfRow, js_X13_value, cs_X13_does, jx_ck_c]
        refine ⟨h1, ?_⟩
        refine jx_runL (o := jo_X13) (cs := cs_X13_does) (hf := jx_nh) jo_X13_ok hc_X13_does (jx_HK_nil rfl) (fun p => p == 141) 100 ?_
        simp only [jw, ju, jx_tg, Int.cast_ofNat_Int, Int.reduceAdd, Int.reduceToNat, Nat.reduceAdd, Nat.reduceMul, Nat.reduceBEq, Nat.reduceLeDiff, Int.reduceLE, Int.reduceLT, Int.reduceEq, Int.reduceNeg, Int.reduceSub, Int.reduceMul, not_false_eq_true, true_and, and_true, and_self, Bool.or_false, Bool.false_or, Bool.or_true, Bool.true_or, List.length_nil, List.length_cons, Nat.zero_le, or_true, true_or, Nat.le_refl, ↓reduceIte, Nat.reduceEqDiff, forall_const, false_and, and_false, false_implies, implies_true, not_true_eq_false, or_false, false_or, ne_eq, jd_X13_does, jf_X13, hs, jp_X13_why, js_X13_isOfRow, js_X13_value, cs_X13_does, jx_ck_c]
        refine ⟨h1, ?_⟩
        refine jx_runL (o := jo_X13) (cs := cs_X13_does) (hf := jx_nh) jo_X13_ok hc_X13_does (jx_HK_nil rfl) (fun p => p == 157) 100 ?_
        simp only [jw, ju, jx_tg, Int.cast_ofNat_Int, Int.reduceAdd, Int.reduceToNat, Nat.reduceAdd, Nat.reduceMul, Nat.reduceBEq, Nat.reduceLeDiff, Int.reduceLE, Int.reduceLT, Int.reduceEq, Int.reduceNeg, Int.reduceSub, Int.reduceMul, not_false_eq_true, true_and, and_true, and_self, Bool.or_false, Bool.false_or, Bool.or_true, Bool.true_or, List.length_nil, List.length_cons, Nat.zero_le, or_true, true_or, Nat.le_refl, ↓reduceIte, Nat.reduceEqDiff, forall_const, false_and, and_false, false_implies, implies_true, not_true_eq_false, or_false, false_or, ne_eq, jd_X13_does, jf_X13, hs, jp_X13_why, js_X13_isOfRow, js_X13_value, cs_X13_does, jx_ck_c]
        refine ⟨h1, ?_⟩
        exact at157 _ _ _ hX hY (fun c => absurd (by omega) c)
      · refine jx_runL (o := jo_X13) (cs := cs_X13_does) (hf := jx_nh) jo_X13_ok hc_X13_does (jx_HK_nil rfl) (fun p => p == 74) 100 ?_
        simp only [jw, ju, jx_tg, Int.cast_ofNat_Int, Int.reduceAdd, Int.reduceToNat, Nat.reduceAdd, Nat.reduceMul, Nat.reduceBEq, Nat.reduceLeDiff, Int.reduceLE, Int.reduceLT, Int.reduceEq, Int.reduceNeg, Int.reduceSub, Int.reduceMul, not_false_eq_true, true_and, and_true, and_self, Bool.or_false, Bool.false_or, Bool.or_true, Bool.true_or, List.length_nil, List.length_cons, Nat.zero_le, or_true, true_or, Nat.le_refl, ↓reduceIte, Nat.reduceEqDiff, forall_const, false_and, and_false, false_implies, implies_true, not_true_eq_false, or_false, false_or, ne_eq, jd_X13_does, jf_X13, hs, jp_X13_why, js_X13_isOfRow, js_X13_value, cs_X13_does, jx_ck_c]
        refine ⟨h1, ?_⟩
        refine jx_runL (o := jo_X13) (cs := cs_X13_does) (hf := jx_nh) jo_X13_ok hc_X13_does (jx_HK_nil rfl) (fun p => p == 90) 100 ?_
        simp only [jw, ju, jx_tg, Int.cast_ofNat_Int, Int.reduceAdd, Int.reduceToNat, Nat.reduceAdd, Nat.reduceMul, Nat.reduceBEq, Nat.reduceLeDiff, Int.reduceLE, Int.reduceLT, Int.reduceEq, Int.reduceNeg, Int.reduceSub, Int.reduceMul, not_false_eq_true, true_and, and_true, and_self, Bool.or_false, Bool.false_or, Bool.or_true, Bool.true_or, List.length_nil, List.length_cons, Nat.zero_le, or_true, true_or, Nat.le_refl, ↓reduceIte, Nat.reduceEqDiff, forall_const, false_and, and_false, false_implies, implies_true, not_true_eq_false, or_false, false_or, ne_eq, jd_X13_does, jf_X13, hs, jp_X13_why, js_X13_isOfRow, js_X13_value, cs_X13_does, jx_ck_c]
        refine ⟨h1, ?_⟩
        refine jx_runL (o := jo_X13) (cs := cs_X13_does) (hf := jx_nh) jo_X13_ok hc_X13_does (jx_HK_nil rfl) (fun p => p == 121) 100 ?_
        simp only [jw, ju, jx_tg, Int.cast_ofNat_Int, Int.reduceAdd, Int.reduceToNat, Nat.reduceAdd, Nat.reduceMul, Nat.reduceBEq, Nat.reduceLeDiff, Int.reduceLE, Int.reduceLT, Int.reduceEq, Int.reduceNeg, Int.reduceSub, Int.reduceMul, not_false_eq_true, true_and, and_true, and_self, Bool.or_false, Bool.false_or, Bool.or_true, Bool.true_or, List.length_nil, List.length_cons, Nat.zero_le, or_true, true_or, Nat.le_refl, ↓reduceIte, Nat.reduceEqDiff, forall_const, false_and, and_false, false_implies, implies_true, not_true_eq_false, or_false, false_or, ne_eq, jd_X13_does, jf_X13, hs, jx_cmp_eq, jp_X13_why, js_X13_isOfRow, js_X13_value, cs_X13_does, jx_ck_c]
        have q6 := @jx_cmp_r X 0
        refine ⟨h1, by omega, fun c => ⟨⟨h1, by omega, a5 hs⟩, ?_⟩, fun c => ?_⟩
        · refine jx_runL (o := jo_X13) (cs := cs_X13_does) (hf := jx_nh) jo_X13_ok hc_X13_does (jx_HK_nil rfl) (fun p => p == 141) 100 ?_
          simp only [jw, ju, jx_tg, Int.cast_ofNat_Int, Int.reduceAdd, Int.reduceToNat, Nat.reduceAdd, Nat.reduceMul, Nat.reduceBEq, Nat.reduceLeDiff, Int.reduceLE, Int.reduceLT, Int.reduceEq, Int.reduceNeg, Int.reduceSub, Int.reduceMul, not_false_eq_true, true_and, and_true, and_self, Bool.or_false, Bool.false_or, Bool.or_true, Bool.true_or, List.length_nil, List.length_cons, Nat.zero_le, or_true, true_or, Nat.le_refl, ↓reduceIte, Nat.reduceEqDiff, forall_const, false_and, and_false, false_implies, implies_true, not_true_eq_false, or_false, false_or, ne_eq, jd_X13_does, jf_X13, hs, jp_X13_why, js_X13_isOfRow, js_X13_value, cs_X13_does, jx_ck_c]
          refine ⟨h1, ?_⟩
          refine jx_runL (o := jo_X13) (cs := cs_X13_does) (hf := jx_nh) jo_X13_ok hc_X13_does (jx_HK_nil rfl) (fun p => p == 157) 100 ?_
          simp only [jw, ju, jx_tg, Int.cast_ofNat_Int, Int.reduceAdd, Int.reduceToNat, Nat.reduceAdd, Nat.reduceMul, Nat.reduceBEq, Nat.reduceLeDiff, Int.reduceLE, Int.reduceLT, Int.reduceEq, Int.reduceNeg, Int.reduceSub, Int.reduceMul, not_false_eq_true, true_and, and_true, and_self, Bool.or_false, Bool.false_or, Bool.or_true, Bool.true_or, List.length_nil, List.length_cons, Nat.zero_le, or_true, true_or, Nat.le_refl, ↓reduceIte, Nat.reduceEqDiff, forall_const, false_and, and_false, false_implies, implies_true, not_true_eq_false, or_false, false_or, ne_eq, jd_X13_does, jf_X13, hs, jp_X13_why, js_X13_isOfRow, js_X13_value, cs_X13_does, jx_ck_c]
          refine ⟨h1, ?_⟩
          refine at157 _ _ _ hX hY (fun c' => ⟨dw0 (by omega) (by omega), ?_⟩)
          unfold mm_dend
          rw [if_neg (show ¬ mY M y 1 a = 0 by rw [mY_j]; omega), if_neg (show ¬ mY M y 1 a = 1 by rw [mY_j]; omega), if_neg (show ¬ mY M y 1 a = 2 by rw [mY_j]; omega), if_neg (show ¬ mY M y 1 a = 3 by rw [mY_j]; omega), if_pos (show mY M y 1 a = 6 from hs), ← hX, if_pos c]
        · refine jx_runL (o := jo_X13) (cs := cs_X13_does) (hf := jx_nh) jo_X13_ok hc_X13_does (jx_HK_nil rfl) (fun p => p == 141) 100 ?_
          simp only [jw, ju, jx_tg, Int.cast_ofNat_Int, Int.reduceAdd, Int.reduceToNat, Nat.reduceAdd, Nat.reduceMul, Nat.reduceBEq, Nat.reduceLeDiff, Int.reduceLE, Int.reduceLT, Int.reduceEq, Int.reduceNeg, Int.reduceSub, Int.reduceMul, not_false_eq_true, true_and, and_true, and_self, Bool.or_false, Bool.false_or, Bool.or_true, Bool.true_or, List.length_nil, List.length_cons, Nat.zero_le, or_true, true_or, Nat.le_refl, ↓reduceIte, Nat.reduceEqDiff, forall_const, false_and, and_false, false_implies, implies_true, not_true_eq_false, or_false, false_or, ne_eq, jd_X13_does, jf_X13, hs, jp_X13_why, js_X13_isOfRow, js_X13_value, cs_X13_does, jx_ck_c]
          refine ⟨h1, ?_⟩
          refine jx_runL (o := jo_X13) (cs := cs_X13_does) (hf := jx_nh) jo_X13_ok hc_X13_does (jx_HK_nil rfl) (fun p => p == 157) 100 ?_
          simp only [jw, ju, jx_tg, Int.cast_ofNat_Int, Int.reduceAdd, Int.reduceToNat, Nat.reduceAdd, Nat.reduceMul, Nat.reduceBEq, Nat.reduceLeDiff, Int.reduceLE, Int.reduceLT, Int.reduceEq, Int.reduceNeg, Int.reduceSub, Int.reduceMul, not_false_eq_true, true_and, and_true, and_self, Bool.or_false, Bool.false_or, Bool.or_true, Bool.true_or, List.length_nil, List.length_cons, Nat.zero_le, or_true, true_or, Nat.le_refl, ↓reduceIte, Nat.reduceEqDiff, forall_const, false_and, and_false, false_implies, implies_true, not_true_eq_false, or_false, false_or, ne_eq, jd_X13_does, jf_X13, hs, jp_X13_why, js_X13_isOfRow, js_X13_value, cs_X13_does, jx_ck_c]
          refine ⟨h1, ?_⟩
          refine at157 _ _ _ hX hY (fun c' => ⟨dw0 (by omega) (by omega), ?_⟩)
          unfold mm_dend
          rw [if_neg (show ¬ mY M y 1 a = 0 by rw [mY_j]; omega), if_neg (show ¬ mY M y 1 a = 1 by rw [mY_j]; omega), if_neg (show ¬ mY M y 1 a = 2 by rw [mY_j]; omega), if_neg (show ¬ mY M y 1 a = 3 by rw [mY_j]; omega), if_pos (show mY M y 1 a = 6 from hs), ← hX, if_neg c, ← hY]
    by_cases hs : M (y + 1) a = 0
    · have ho := a6 (Or.inl hs)
      refine jx_runL (o := jo_X13) (cs := cs_X13_does) (hf := jx_nh) jo_X13_ok hc_X13_does (jx_HK_nil rfl) (fun p => p == 58) 100 ?_
      simp only [jw, ju, jx_tg, Int.cast_ofNat_Int, Int.reduceAdd, Int.reduceToNat, Nat.reduceAdd, Nat.reduceMul, Nat.reduceBEq, Nat.reduceLeDiff, Int.reduceLE, Int.reduceLT, Int.reduceEq, Int.reduceNeg, Int.reduceSub, Int.reduceMul, not_false_eq_true, true_and, and_true, and_self, Bool.or_false, Bool.false_or, Bool.or_true, Bool.true_or, List.length_nil, List.length_cons, Nat.zero_le, or_true, true_or, Nat.le_refl, ↓reduceIte, Nat.reduceEqDiff, forall_const, false_and, and_false, false_implies, implies_true, not_true_eq_false, or_false, false_or, ne_eq, jd_X13_does, jf_X13, hs, ho, jp_X13_why, js_X13_isOfRow, js_X13_value, cs_X13_does, jx_ck_c]
      refine ⟨h1, h1, by omega, at58 _ _ ?_ ?_⟩
      · unfold mm_x
        rw [if_pos (show mY M y 1 a = 0 from hs)]
        rfl
      · unfold mm_y
        rw [if_pos (show mY M y 6 (3 * a + 1) < 0 by rw [mY_j]; omega)]
    · have hx : mm_val (mY M y) a 0 t = mm_x (mY M y) a t := by
        unfold mm_x
        rw [if_neg (show ¬ mY M y 1 a = 0 from hs)]
      by_cases h4' : M (y + 1) a = 4
      · have ho := a6 (Or.inr h4')
        refine jx_runL (o := jo_X13) (cs := cs_X13_does) (hf := jx_nh) jo_X13_ok hc_X13_does (jx_HK_nil rfl) (fun p => p == 58) 100 ?_
        simp only [jw, ju, jx_tg, Int.cast_ofNat_Int, Int.reduceAdd, Int.reduceToNat, Nat.reduceAdd, Nat.reduceMul, Nat.reduceBEq, Nat.reduceLeDiff, Int.reduceLE, Int.reduceLT, Int.reduceEq, Int.reduceNeg, Int.reduceSub, Int.reduceMul, not_false_eq_true, true_and, and_true, and_self, Bool.or_false, Bool.false_or, Bool.or_true, Bool.true_or, List.length_nil, List.length_cons, Nat.zero_le, or_true, true_or, Nat.le_refl, ↓reduceIte, Nat.reduceEqDiff, forall_const, false_and, and_false, false_implies, implies_true, not_true_eq_false, or_false, false_or, ne_eq, jd_X13_does, jf_X13, h4', ho, jp_X13_why, js_X13_isOfRow, js_X13_value, cs_X13_does, jx_ck_c]
        refine ⟨h1, ⟨h1, by omega, a3 hs⟩, by omega, at58 _ _ hx ?_⟩
        unfold mm_y
        rw [if_pos (show mY M y 6 (3 * a + 1) < 0 by rw [mY_j]; omega)]
      · have ho := a7 (by omega)
        have ho1 := a4 (by rw [mY_j]; exact ho)
        have ho2 := ho1.1
        simp only [mY_j] at ho2
        refine jx_runL (o := jo_X13) (cs := cs_X13_does) (hf := jx_nh) jo_X13_ok hc_X13_does (jx_HK_nil rfl) (fun p => p == 58) 100 ?_
        simp only [jw, ju, jx_tg, Int.cast_ofNat_Int, Int.reduceAdd, Int.reduceToNat, Nat.reduceAdd, Nat.reduceMul, Nat.reduceBEq, Nat.reduceLeDiff, Int.reduceLE, Int.reduceLT, Int.reduceEq, Int.reduceNeg, Int.reduceSub, Int.reduceMul, not_false_eq_true, true_and, and_true, and_self, Bool.or_false, Bool.false_or, Bool.or_true, Bool.true_or, List.length_nil, List.length_cons, Nat.zero_le, or_true, true_or, Nat.le_refl, ↓reduceIte, Nat.reduceEqDiff, forall_const, false_and, and_false, false_implies, implies_true, not_true_eq_false, or_false, false_or, ne_eq, jd_X13_does, jf_X13, hs, ho, jp_X13_why, js_X13_isOfRow, js_X13_value, cs_X13_does, jx_ck_c]
        refine ⟨h1, by omega, ⟨h1, by omega, a3 hs⟩, by omega, by omega, ⟨h1, by omega, ho1⟩, at58 _ _ hx ?_⟩
        unfold mm_y
        rw [if_neg (show ¬ mY M y 6 (3 * a + 1) < 0 by rw [mY_j]; omega)]
  · exact hS.elim
