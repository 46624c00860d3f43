/-! LoopLane: laying, namesOf, names, fewest, filledAt, filled -/
set_option maxRecDepth 100000
/-- what a laying gives -/
theorem rLd_b {x a : Int} {S : jx_M} {M : jx_M} (hl : rLd x S M) (hw : mW S) (c : S 0 27 ≠ 0) (a0 : 0 ≤ a) (a1 : a < S 0 9) : M x 26 * M (x + 31) a + M (x + 30) a = S 26 a := by
  have h1 := hl.2 c
  have h2 := h1.2 a a0 a1
  have h3 := ((hw.2.2.1 c).2.1 a a0 a1).2.2.1
  rw [h1.1, h2.1, h2.2.1, h3]
theorem rLd_c' {x a : Int} {S : jx_M} {M : jx_M} (hl : rLd x S M) (hw : mW S) (c : S 0 27 ≠ 0) (a0 : 0 ≤ a) (a1 : a < S 0 9) : S 0 27 * M (x + 31) a + M (x + 30) a = S 26 a := by
  have := rLd_b hl hw c a0 a1
  rw [(hl.2 c).1] at this
  exact this
theorem mm_life_s {S : jx_M} {a : Int} {k : Nat} : mm_life S a (k + 1) = if S 6 k = a then max (mm_life S a k) (S 26 ((k : Int) / 3) + S 0 27 * S 7 k - S 26 a) else mm_life S a k := rfl
theorem mW_26 {a : Int} {S : jx_M} (hw : mW S) (c : S 0 27 ≠ 0) (a0 : 0 ≤ a) (a1 : a < S 0 9) : 0 ≤ S 26 a ∧ S 26 a ≤ 61000 := by
  have h1 := (hw.2.2.1 c).2.1 a a0 a1
  have h2 := hw.2.1
  have h3 : 0 ≤ S 0 27 * S 25 a := Int.mul_nonneg h2.1 h1.2.1.1
  have h4 : S 0 27 * S 25 a ≤ 60 * 1000 := Int.mul_le_mul h2.2 h1.2.1.2 h1.2.1.1 (by decide)
  omega
def js_X0_laying : jx_Sp := fun as g M Po => match as with
  | [(60, _, x), (0, _, w)] => ∃ S, (rR x S g M ∧ mW S ∧ jx_r w) ∧ rK x g M Po 0 (f_laying w S).1 (f_laying w S).2
  | _ => False
def cs_X0_laying : jx_Cs := [(723, 2, 0, 0, js_X0_begin), (741, 1, 0, 0, js_X0_mostStages), (319, 2, 0, 0, js_J10_max), (1161, 2, 0, 0, js_X0_refuse)]
theorem hc_X0_laying {D : jx_D} {l : Launch} : jx_CsOK D l "LoopLane" 5 cs_X0_laying := List.forall_mem_cons.mpr ⟨jc_X0_241 (jt_X0_begin l) (fun as g M Po (h : js_X0_begin as g M Po) => by unfold js_X0_begin at h; split at h <;> first | exact h.elim | exact ⟨_, _, _, rfl, rfl⟩) (by decide), List.forall_mem_cons.mpr ⟨jc_X0_247 (jt_X0_mostStages l) (fun as g M Po (h : js_X0_mostStages as g M Po) => by unfold js_X0_mostStages at h; split at h <;> first | exact h.elim | exact ⟨_, _, _, rfl, rfl⟩) (by decide), List.forall_mem_cons.mpr ⟨jx_CS_max q910, List.forall_mem_cons.mpr ⟨jc_X0_387 (jt_X0_refuse l) (fun as g M Po (h : js_X0_refuse as g M Po) => by unfold js_X0_refuse at h; split at h <;> first | exact h.elim | exact ⟨_, _, _, rfl, rfl⟩) (by decide), fun _ h => absurd h List.not_mem_nil⟩⟩⟩⟩
set_option maxHeartbeats 4000000 in
theorem jt_X0_laying (l : Launch) : jx_Ct l yX0_laying (ws_ yX0_laying cX0_laying 4 (some .int)) 5 0 0 js_X0_laying := by
  refine jx_Ct_c (rc := 0) (by decide) rfl (fun D as g M Po hS => ?_)
  unfold js_X0_laying at hS
  split at hS
  · rename_i n1 x n2 w
    obtain ⟨S, ⟨hR, hW, r2⟩, hK⟩ := hS
    have hB := hW.1
    have h9 := hB.1
    have x0 := hR.1.1
    have r5 := hR.2.1.1
    have l1 := hR.2.2.2.1.1
    unfold f_laying at hK
    simp only [rK_ite, mno] at hK
    refine ⟨Nat.le_of_ble_eq_true rfl, ?_⟩
    by_cases c0 : S 0 27 = 0
    · rw [if_pos c0] at l1
      refine jx_runL (o := jo_X0) (cs := cs_X0_laying) (hf := jx_nh) jo_X0_ok hc_X0_laying (jx_HK_nil rfl) (fun p => p == 14) 20 ?_
      simp only [jw, ju, jx_tg, Int.cast_ofNat_Int, Int.reduceAdd, Int.reduceToNat, Nat.reduceAdd, Nat.reduceMul, Nat.reduceBEq, Nat.reduceLeDiff, Int.reduceLE, Int.reduceLT, Int.reduceEq, Int.reduceNeg, Int.reduceSub, Int.reduceMul, not_false_eq_true, true_and, and_true, and_self, Bool.or_false, Bool.false_or, Bool.or_true, Bool.true_or, List.length_nil, List.length_cons, Nat.zero_le, or_true, true_or, Nat.le_refl, ↓reduceIte, Nat.reduceEqDiff, forall_const, false_and, and_false, false_implies, implies_true, not_true_eq_false, or_false, false_or, ne_eq, jd_X0_laying, jf_X0, l1, js_J10_max, js_X0_begin, js_X0_mostStages, js_X0_refuse, cs_X0_laying, jx_ck_c]
      exact rK_no h9.2 (by decide) hR rFr_rf (hK.1 c0)
    · rw [if_neg c0] at l1
      have hK2 := hK.2 c0
      have l2 := hR.2.2.2.1.2 c0
      have at52 : ∀ P3 : jx_A, jx_V D l (yX0_laying.cls, cX0_laying, 4, 0, [], 5, 0, 0, yX0_laying.name) Po 52 [(60, n1, x), (0, n2, w), (0, 0, mm_max (fun a => S 26 a + S 2 a) (S 0 9).toNat), P3] [] (0, 0) g (M) := by
        intro P3
        have es : mm_max (M (x + 31)) (S 0 9).toNat = mm_max (S 25) (S 0 9).toNat := mm_max_congr _ (fun v v0 v1 => (l2.2 v v0 (by omega)).2.1)
        refine jx_runL (o := jo_X0) (cs := cs_X0_laying) (hf := jx_nh) jo_X0_ok hc_X0_laying (jx_HK_nil rfl) (fun p => p == 90) 40 ?_
        simp only [jw, ju, jx_tg, Int.cast_ofNat_Int, Int.reduceAdd, Int.reduceToNat, Nat.reduceAdd, Nat.reduceMul, Nat.reduceBEq, Nat.reduceLeDiff, Int.reduceLE, Int.reduceLT, Int.reduceEq, Int.reduceNeg, Int.reduceSub, Int.reduceMul, not_false_eq_true, true_and, and_true, and_self, Bool.or_false, Bool.false_or, Bool.or_true, Bool.true_or, List.length_nil, List.length_cons, Nat.zero_le, or_true, true_or, Nat.le_refl, ↓reduceIte, Nat.reduceEqDiff, forall_const, false_and, and_false, false_implies, implies_true, not_true_eq_false, or_false, false_or, ne_eq, jd_X0_laying, jf_X0, r5, l2.1, es, js_J10_max, js_X0_begin, js_X0_mostStages, js_X0_refuse, cs_X0_laying, jx_ck_c]
        refine ⟨r2, fun c => ⟨r2, fun c2 => ⟨r2, fun c3 => ?_, fun c3 => ?_⟩, fun c2 => ⟨⟨h9, fun a a0 a1 => ?_⟩, ?_⟩⟩, fun c => ?_⟩
        · refine jx_runL (o := jo_X0) (cs := cs_X0_laying) (hf := jx_nh) jo_X0_ok hc_X0_laying (jx_HK_nil rfl) (fun _ => false) 20 ?_
          simp only [jw, ju, jx_tg, Int.cast_ofNat_Int, Int.reduceAdd, Int.reduceToNat, Nat.reduceAdd, Nat.reduceMul, Nat.reduceBEq, Nat.reduceLeDiff, Int.reduceLE, Int.reduceLT, Int.reduceEq, Int.reduceNeg, Int.reduceSub, Int.reduceMul, not_false_eq_true, true_and, and_true, and_self, Bool.or_false, Bool.false_or, Bool.or_true, Bool.true_or, List.length_nil, List.length_cons, Nat.zero_le, or_true, true_or, Nat.le_refl, ↓reduceIte, Nat.reduceEqDiff, forall_const, false_and, and_false, false_implies, implies_true, not_true_eq_false, or_false, false_or, ne_eq, jd_X0_laying, jf_X0, js_J10_max, js_X0_begin, js_X0_mostStages, js_X0_refuse, cs_X0_laying, jx_ck_c]
          exact rK_no h9.2 (by decide) hR rFr_rf (hK2.2 (by omega))
        · refine jx_runL (o := jo_X0) (cs := cs_X0_laying) (hf := jx_nh) jo_X0_ok hc_X0_laying (jx_HK_nil rfl) (fun _ => false) 20 ?_
          simp only [jw, ju, jx_tg, Int.cast_ofNat_Int, Int.reduceAdd, Int.reduceToNat, Nat.reduceAdd, Nat.reduceMul, Nat.reduceBEq, Nat.reduceLeDiff, Int.reduceLE, Int.reduceLT, Int.reduceEq, Int.reduceNeg, Int.reduceSub, Int.reduceMul, not_false_eq_true, true_and, and_true, and_self, Bool.or_false, Bool.false_or, Bool.or_true, Bool.true_or, List.length_nil, List.length_cons, Nat.zero_le, or_true, true_or, Nat.le_refl, ↓reduceIte, Nat.reduceEqDiff, forall_const, false_and, and_false, false_implies, implies_true, not_true_eq_false, or_false, false_or, ne_eq, jd_X0_laying, jf_X0, js_J10_max, js_X0_begin, js_X0_mostStages, js_X0_refuse, cs_X0_laying, jx_ck_c]
          exact rK_s hR (((hK2.1 (by omega)).2 (by omega)).2 (by omega))
        · rw [(l2.2 a a0 a1).2.1]
          exact ((hW.2.2.1 c0).2.1 a a0 a1).2.1
        · refine jx_runL (o := jo_X0) (cs := cs_X0_laying) (hf := jx_nh) jo_X0_ok hc_X0_laying (jx_HK_nil rfl) (fun _ => false) 20 ?_
          simp only [jw, ju, jx_tg, Int.cast_ofNat_Int, Int.reduceAdd, Int.reduceToNat, Nat.reduceAdd, Nat.reduceMul, Nat.reduceBEq, Nat.reduceLeDiff, Int.reduceLE, Int.reduceLT, Int.reduceEq, Int.reduceNeg, Int.reduceSub, Int.reduceMul, not_false_eq_true, true_and, and_true, and_self, Bool.or_false, Bool.false_or, Bool.or_true, Bool.true_or, List.length_nil, List.length_cons, Nat.zero_le, or_true, true_or, Nat.le_refl, ↓reduceIte, Nat.reduceEqDiff, forall_const, false_and, and_false, false_implies, implies_true, not_true_eq_false, or_false, false_or, ne_eq, jd_X0_laying, jf_X0, js_J10_max, js_X0_begin, js_X0_mostStages, js_X0_refuse, cs_X0_laying, jx_ck_c]
          exact rK_s hR (((hK2.1 (by omega)).2 (by omega)).1 (by omega))
        · refine jx_runL (o := jo_X0) (cs := cs_X0_laying) (hf := jx_nh) jo_X0_ok hc_X0_laying (jx_HK_nil rfl) (fun _ => false) 20 ?_
          simp only [jw, ju, jx_tg, Int.cast_ofNat_Int, Int.reduceAdd, Int.reduceToNat, Nat.reduceAdd, Nat.reduceMul, Nat.reduceBEq, Nat.reduceLeDiff, Int.reduceLE, Int.reduceLT, Int.reduceEq, Int.reduceNeg, Int.reduceSub, Int.reduceMul, not_false_eq_true, true_and, and_true, and_self, Bool.or_false, Bool.false_or, Bool.or_true, Bool.true_or, List.length_nil, List.length_cons, Nat.zero_le, or_true, true_or, Nat.le_refl, ↓reduceIte, Nat.reduceEqDiff, forall_const, false_and, and_false, false_implies, implies_true, not_true_eq_false, or_false, false_or, ne_eq, jd_X0_laying, jf_X0, js_J10_max, js_X0_begin, js_X0_mostStages, js_X0_refuse, cs_X0_laying, jx_ck_c]
          exact rK_s hR ((hK2.1 (by omega)).1 (by omega))
      have loop : ∀ (f k : Nat), (k : Int) + f = S 0 9 → jx_V D l (yX0_laying.cls, cX0_laying, 4, 0, [], 5, 0, 0, yX0_laying.name) Po 18 [(60, n1, x), (0, n2, w), (0, 0, mm_max (fun a => S 26 a + S 2 a) k), (0, 0, (k : Int))] [] (0, 0) g (M) := by
        intro f
        induction f with
        | zero =>
          intro k hk
          have a := at52 (0, 0, (k : Int))
          rw [show (S 0 9).toNat = k by omega] at a
          refine jx_runL (o := jo_X0) (cs := cs_X0_laying) (hf := jx_nh) jo_X0_ok hc_X0_laying (jx_HK_nil rfl) (fun p => p == 52) 20 ?_
          simp only [jw, ju, jx_tg, Int.cast_ofNat_Int, Int.reduceAdd, Int.reduceToNat, Nat.reduceAdd, Nat.reduceMul, Nat.reduceBEq, Nat.reduceLeDiff, Int.reduceLE, Int.reduceLT, Int.reduceEq, Int.reduceNeg, Int.reduceSub, Int.reduceMul, not_false_eq_true, true_and, and_true, and_self, Bool.or_false, Bool.false_or, Bool.or_true, Bool.true_or, List.length_nil, List.length_cons, Nat.zero_le, or_true, true_or, Nat.le_refl, ↓reduceIte, Nat.reduceEqDiff, forall_const, false_and, and_false, false_implies, implies_true, not_true_eq_false, or_false, false_or, ne_eq, jd_X0_laying, jf_X0, r5, js_J10_max, js_X0_begin, js_X0_mostStages, js_X0_refuse, cs_X0_laying, jx_ck_c]
          exact ⟨by omega, fun c => a, fun c => by omega⟩
        | succ f ih =>
          intro k hk
          have hA := hR.2.1.2.2.1 k (by omega) (by omega)
          have eb := rLd_b hR.2.2.2.1 hW c0 (show 0 ≤ (k : Int) by omega) (by omega)
          have rb := mW_26 hW c0 (show 0 ≤ (k : Int) by omega) (by omega)
          have rl := (hB.2.2.1 k (by omega) (by omega)).2.1
          have nx := ih (k + 1) (by omega)
          have rm := mm_max_r (fun a => S 26 a + S 2 a) 61100 (by omega) k (fun v a b => by have := mW_26 hW c0 a (show v < S 0 9 by omega); have := (hB.2.2.1 v a (by omega)).2.1; show S 26 v + S 2 v ≤ 61100; omega)
          rw [show mm_max (fun a => S 26 a + S 2 a) (k + 1) = max (mm_max (fun a => S 26 a + S 2 a) k) (S 26 k + S 2 k) from rfl, show (((k + 1 : Nat) : Int)) = (k : Int) + 1 by omega] at nx
          refine jx_runL (o := jo_X0) (cs := cs_X0_laying) (hf := jx_nh) jo_X0_ok hc_X0_laying (jx_HK_nil rfl) (fun p => p == 18 || p == 52) 40 ?_
          simp only [jw, ju, jx_tg, Int.cast_ofNat_Int, Int.reduceAdd, Int.reduceToNat, Nat.reduceAdd, Nat.reduceMul, Nat.reduceBEq, Nat.reduceLeDiff, Int.reduceLE, Int.reduceLT, Int.reduceEq, Int.reduceNeg, Int.reduceSub, Int.reduceMul, not_false_eq_true, true_and, and_true, and_self, Bool.or_false, Bool.false_or, Bool.or_true, Bool.true_or, List.length_nil, List.length_cons, Nat.zero_le, or_true, true_or, Nat.le_refl, ↓reduceIte, Nat.reduceEqDiff, forall_const, false_and, and_false, false_implies, implies_true, not_true_eq_false, or_false, false_or, ne_eq, jd_X0_laying, jf_X0, r5, eb, rA_lag hA, js_J10_max, js_X0_begin, js_X0_mostStages, js_X0_refuse, cs_X0_laying, jx_ck_c]
          exact ⟨by omega, fun c => by omega, fun c => ⟨by omega, by omega, rA_k3 hA x0 (by omega), ⟨⟨by omega, by omega⟩, by omega, by omega⟩, nx⟩⟩
      refine jx_runL (o := jo_X0) (cs := cs_X0_laying) (hf := jx_nh) jo_X0_ok hc_X0_laying (jx_HK_nil rfl) (fun p => p == 7 || p == 18) 20 ?_
      simp only [jw, ju, jx_tg, Int.cast_ofNat_Int, Int.reduceAdd, Int.reduceToNat, Nat.reduceAdd, Nat.reduceMul, Nat.reduceBEq, Nat.reduceLeDiff, Int.reduceLE, Int.reduceLT, Int.reduceEq, Int.reduceNeg, Int.reduceSub, Int.reduceMul, not_false_eq_true, true_and, and_true, and_self, Bool.or_false, Bool.false_or, Bool.or_true, Bool.true_or, List.length_nil, List.length_cons, Nat.zero_le, or_true, true_or, Nat.le_refl, ↓reduceIte, Nat.reduceEqDiff, forall_const, false_and, and_false, false_implies, implies_true, not_true_eq_false, or_false, false_or, ne_eq, jd_X0_laying, jf_X0, l1, js_J10_max, js_X0_begin, js_X0_mostStages, js_X0_refuse, cs_X0_laying, jx_ck_c]
      exact loop (S 0 9).toNat 0 (by omega)
  · exact hS.elim
/-! names -/
def js_X0_namesOf : jx_Sp := fun as g M Po => match as with
  | [(60, _, x), (0, _, a)] => ∃ S, (0 ≤ x ∧ rBd x S g M ∧ rLd x S M ∧ mW S ∧ S 0 27 ≠ 0 ∧ (0 ≤ a ∧ a < S 0 9)) ∧ Po (0, 0, mm_places S a) g M
  | _ => False
def cs_X0_namesOf : jx_Cs := [(723, 2, 0, 0, js_X0_begin), (319, 2, 0, 0, js_J10_max)]
theorem hc_X0_namesOf {D : jx_D} {l : Launch} : jx_CsOK D l "LoopLane" 1 cs_X0_namesOf := List.forall_mem_cons.mpr ⟨jc_X0_241 (jt_X0_begin l) (fun as g M Po (h : js_X0_begin as g M Po) => by unfold js_X0_begin at h; split at h <;> first | exact h.elim | exact ⟨_, _, _, rfl, rfl⟩) (by decide), List.forall_mem_cons.mpr ⟨jx_CS_max q910, fun _ h => absurd h List.not_mem_nil⟩⟩
set_option maxHeartbeats 4000000 in
theorem jt_X0_namesOf (l : Launch) : jx_Ct l yX0_namesOf (ws_ yX0_namesOf cX0_namesOf 5 (some .int)) 1 0 0 js_X0_namesOf := by
  refine jx_Ct_c (rc := 0) (by decide) rfl (fun D as g M Po hS => ?_)
  unfold js_X0_namesOf at hS
  split at hS
  · rename_i n1 x n2 a
    obtain ⟨S, ⟨hx, hR, hL, hW, c0, ha⟩, hP⟩ := hS
    have hB := hW.1
    have h9 := hB.1
    have r5 := hR.1
    have l2 := hL.2 c0
    have hb := hW.2.1
    refine ⟨Nat.le_of_ble_eq_true rfl, ?_⟩
    have eba := rLd_b hL hW c0 ha.1 ha.2
    have rba := mW_26 hW c0 ha.1 ha.2
    have bk : mm_bk S := ⟨fun v v0 v1 => by have := mW_26 hW c0 v0 v1; omega, fun k k0 k1 => by rcases mB_op hB k0 k1 with q | q <;> omega⟩
    have lr := mm_life_r hb ha bk
    have outer : ∀ (f b : Nat) (P4 : jx_A), (b : Int) + f = S 0 9 → jx_V D l (yX0_namesOf.cls, cX0_namesOf, 5, 0, [], 1, 0, 0, yX0_namesOf.name) Po 4 [(60, n1, x), (0, n2, a), (0, 0, mm_life S a (3 * b)), (0, 0, (b : Int)), P4] [] (0, 0) g (M) := by
      intro f
      induction f with
      | zero =>
        intro b P4 hk
        have l := lr (3 * b) (by omega)
        unfold mm_places at hP
        rw [show (3 * S 0 9).toNat = 3 * b by omega] at hP
        refine jx_runL (o := jo_X0) (cs := cs_X0_namesOf) (hf := jx_nh) jo_X0_ok hc_X0_namesOf (jx_HK_nil rfl) (fun p => p == 12) 20 ?_
        simp only [jw, ju, jx_tg, Int.cast_ofNat_Int, Int.reduceAdd, Int.reduceToNat, Nat.reduceAdd, Nat.reduceMul, Nat.reduceBEq, Nat.reduceLeDiff, Int.reduceLE, Int.reduceLT, Int.reduceEq, Int.reduceNeg, Int.reduceSub, Int.reduceMul, not_false_eq_true, true_and, and_true, and_self, Bool.or_false, Bool.false_or, Bool.or_true, Bool.true_or, List.length_nil, List.length_cons, Nat.zero_le, or_true, true_or, Nat.le_refl, ↓reduceIte, Nat.reduceEqDiff, forall_const, false_and, and_false, false_implies, implies_true, not_true_eq_false, or_false, false_or, ne_eq, jd_X0_namesOf, jf_X0, r5, l2.1, Int.tdiv_eq_ediv_of_nonneg l.1, js_J10_max, js_X0_begin, cs_X0_namesOf, jx_ck_c]
        exact ⟨by omega, fun c => ⟨⟨by omega, by omega, c0⟩, hP⟩, fun c => by omega⟩
      | succ f ih =>
        intro b P4 hk
        have hA := hR.2.2.1 b (by omega) (by omega)
        have k3 := rA_k3 hA hx (by omega)
        have hn := mm_nop_3 (S 1 b)
        have ebb := rLd_b hL hW c0 (show 0 ≤ (b : Int) by omega) (by omega)
        have rbb := mW_26 hW c0 (show 0 ≤ (b : Int) by omega) (by omega)
        have inner : ∀ (q i : Nat), (i : Int) + q = mm_nop (S 1 b) → jx_V D l (yX0_namesOf.cls, cX0_namesOf, 5, 0, [], 1, 0, 0, yX0_namesOf.name) Po 15 [(60, n1, x), (0, n2, a), (0, 0, mm_life S a (3 * b + i)), (0, 0, (b : Int)), (0, 0, (i : Int))] [] (0, 0) g (M) := by
          intro q
          induction q with
          | zero =>
            intro i hi
            have nx := ih (b + 1) (0, 0, (i : Int)) (by omega)
            have el : ∀ j : Nat, i ≤ j → j ≤ 3 → mm_life S a (3 * b + j) = mm_life S a (3 * b + i) := fun j => by
              induction j with
              | zero => intro q1 _; rw [show i = 0 by omega]
              | succ j ij =>
                intro q1 q2
                by_cases c : i = j + 1
                · rw [c]
                · have o := (hB.2.2.2.1 b j (by omega) (by omega) (by omega) (by omega)).2 (by omega)
                  show mm_life S a ((3 * b + j) + 1) = _
                  rw [mm_life_s, if_neg (by rw [show (((3 * b + j : Nat)) : Int) = 3 * (b : Int) + j by omega, o.1]; omega)]
                  exact ij (by omega) (by omega)
            rw [show 3 * (b + 1) = 3 * b + 3 by omega, el 3 (by omega) (by omega), show (((b + 1 : Nat) : Int)) = (b : Int) + 1 by omega] at nx
            refine jx_runL (o := jo_X0) (cs := cs_X0_namesOf) (hf := jx_nh) jo_X0_ok hc_X0_namesOf (jx_HK_nil rfl) (fun p => p == 4) 30 ?_
            simp only [jw, ju, jx_tg, Int.cast_ofNat_Int, Int.reduceAdd, Int.reduceToNat, Nat.reduceAdd, Nat.reduceMul, Nat.reduceBEq, Nat.reduceLeDiff, Int.reduceLE, Int.reduceLT, Int.reduceEq, Int.reduceNeg, Int.reduceSub, Int.reduceMul, not_false_eq_true, true_and, and_true, and_self, Bool.or_false, Bool.false_or, Bool.or_true, Bool.true_or, List.length_nil, List.length_cons, Nat.zero_le, or_true, true_or, Nat.le_refl, ↓reduceIte, Nat.reduceEqDiff, forall_const, false_and, and_false, false_implies, implies_true, not_true_eq_false, or_false, false_or, ne_eq, jd_X0_namesOf, jf_X0, rA_many hA, js_J10_max, js_X0_begin, cs_X0_namesOf, jx_ck_c]
            exact ⟨by omega, k3, by omega, fun c => nx, fun c => by omega⟩
          | succ q iq =>
            intro i hi
            have hof := rA_of hA (show 0 ≤ (i : Int) by omega) (by omega)
            have hbk := rA_back hA (show 0 ≤ (i : Int) by omega) (by omega)
            have bo := (hB.2.2.2.1 b i (by omega) (by omega) (by omega) (by omega)).1 (by omega)
            have nx := iq (i + 1) (by omega)
            have l := lr (3 * b + i) (by omega)
            have pr := mm_prod hb (show -1 ≤ S 7 (3 * b + i) ∧ S 7 (3 * b + i) ≤ 4 by omega)
            rw [show mm_life S a (3 * b + (i + 1)) = (if S 6 ((3 * b + i : Nat) : Int) = a then max (mm_life S a (3 * b + i)) (S 26 (((3 * b + i : Nat) : Int) / 3) + S 0 27 * S 7 ((3 * b + i : Nat) : Int) - S 26 a) else mm_life S a (3 * b + i)) from rfl, show (((3 * b + i : Nat)) : Int) = 3 * (b : Int) + i by omega, show (3 * (b : Int) + i) / 3 = b by omega, show (((i + 1 : Nat) : Int)) = (i : Int) + 1 by omega] at nx
            have eb1 := rLd_c' hL hW c0 (show 0 ≤ (b : Int) by omega) (by omega)
            have eb2 := rLd_c' hL hW c0 ha.1 ha.2
            refine jx_runL (o := jo_X0) (cs := cs_X0_namesOf) (hf := jx_nh) jo_X0_ok hc_X0_namesOf (jx_HK_nil rfl) (fun p => p == 4 || p == 15) 50 ?_
            simp only [jw, ju, jx_tg, Int.cast_ofNat_Int, Int.reduceAdd, Int.reduceToNat, Nat.reduceAdd, Nat.reduceMul, Nat.reduceBEq, Nat.reduceLeDiff, Int.reduceLE, Int.reduceLT, Int.reduceEq, Int.reduceNeg, Int.reduceSub, Int.reduceMul, not_false_eq_true, true_and, and_true, and_self, Bool.or_false, Bool.false_or, Bool.or_true, Bool.true_or, List.length_nil, List.length_cons, Nat.zero_le, or_true, true_or, Nat.le_refl, ↓reduceIte, Nat.reduceEqDiff, forall_const, false_and, and_false, false_implies, implies_true, not_true_eq_false, or_false, false_or, ne_eq, jd_X0_namesOf, jf_X0, rA_many hA, hof, hbk, l2.1, eb1, eb2, js_J10_max, js_X0_begin, cs_X0_namesOf, jx_ck_c]
            refine ⟨by omega, k3, by omega, fun c => by omega, fun c => ⟨by omega, k3, by omega, by omega, fun c2 => ?_, fun c2 => ⟨by omega, by omega, k3, by omega, by omega, ⟨⟨by omega, by omega⟩, by omega, by omega⟩, ?_⟩⟩⟩
            · rw [if_neg c2] at nx; exact nx
            · rw [if_pos (by omega)] at nx; exact nx
        refine jx_runL (o := jo_X0) (cs := cs_X0_namesOf) (hf := jx_nh) jo_X0_ok hc_X0_namesOf (jx_HK_nil rfl) (fun p => p == 15 || p == 91) 20 ?_
        simp only [jw, ju, jx_tg, Int.cast_ofNat_Int, Int.reduceAdd, Int.reduceToNat, Nat.reduceAdd, Nat.reduceMul, Nat.reduceBEq, Nat.reduceLeDiff, Int.reduceLE, Int.reduceLT, Int.reduceEq, Int.reduceNeg, Int.reduceSub, Int.reduceMul, not_false_eq_true, true_and, and_true, and_self, Bool.or_false, Bool.false_or, Bool.or_true, Bool.true_or, List.length_nil, List.length_cons, Nat.zero_le, or_true, true_or, Nat.le_refl, ↓reduceIte, Nat.reduceEqDiff, forall_const, false_and, and_false, false_implies, implies_true, not_true_eq_false, or_false, false_or, ne_eq, jd_X0_namesOf, jf_X0, r5, js_J10_max, js_X0_begin, cs_X0_namesOf, jx_ck_c]
        exact ⟨by omega, fun c => by omega, fun c => inner (mm_nop (S 1 b)).toNat 0 (by omega)⟩
    refine jx_runL (o := jo_X0) (cs := cs_X0_namesOf) (hf := jx_nh) jo_X0_ok hc_X0_namesOf (jx_HK_nil rfl) (fun p => p == 4) 20 ?_
    simp only [jw, ju, jx_tg, Int.cast_ofNat_Int, Int.reduceAdd, Int.reduceToNat, Nat.reduceAdd, Nat.reduceMul, Nat.reduceBEq, Nat.reduceLeDiff, Int.reduceLE, Int.reduceLT, Int.reduceEq, Int.reduceNeg, Int.reduceSub, Int.reduceMul, not_false_eq_true, true_and, and_true, and_self, Bool.or_false, Bool.false_or, Bool.or_true, Bool.true_or, List.length_nil, List.length_cons, Nat.zero_le, or_true, true_or, Nat.le_refl, ↓reduceIte, Nat.reduceEqDiff, forall_const, false_and, and_false, false_implies, implies_true, not_true_eq_false, or_false, false_or, ne_eq, jd_X0_namesOf, jf_X0, js_J10_max, js_X0_begin, cs_X0_namesOf, jx_ck_c]
    exact outer (S 0 9).toNat 0 _ (by omega)
  · exact hS.elim
/-! filled -/
def js_X0_filledAt : jx_Sp := fun as g M Po => match as with
  | [(60, _, x), (0, _, k), (0, _, t), (0, _, y)] => ∃ S, (0 ≤ x ∧ rBd x S g M ∧ rLd x S M ∧ mW S ∧ S 0 27 ≠ 0 ∧ (0 ≤ k ∧ k ≤ 5) ∧ jx_r t ∧ (y = 0 ∨ y = 1)) ∧ Po (0, 0, mm_fill S (if y = 0 then S 26 else S 27) k t) g M
  | _ => False
def cs_X0_filledAt : jx_Cs := [(723, 2, 0, 0, js_X0_begin)]
theorem hc_X0_filledAt {D : jx_D} {l : Launch} : jx_CsOK D l "LoopLane" 1 cs_X0_filledAt := List.forall_mem_cons.mpr ⟨jc_X0_241 (jt_X0_begin l) (fun as g M Po (h : js_X0_begin as g M Po) => by unfold js_X0_begin at h; split at h <;> first | exact h.elim | exact ⟨_, _, _, rfl, rfl⟩) (by decide), fun _ h => absurd h List.not_mem_nil⟩
set_option maxHeartbeats 4000000 in
theorem jt_X0_filledAt (l : Launch) : jx_Ct l yX0_filledAt (ws_ yX0_filledAt cX0_filledAt 8 (some .int)) 1 0 0 js_X0_filledAt := by
  refine jx_Ct_c (rc := 0) (by decide) rfl (fun D as g M Po hS => ?_)
  unfold js_X0_filledAt at hS
  split at hS
  · rename_i n1 x n2 k n3 t n4 y
    obtain ⟨S, ⟨hx, hR, hL, hW, c0, hk, rt, hy⟩, hP⟩ := hS
    have hB := hW.1
    have h9 := hB.1
    have r5 := hR.1
    have l2 := hL.2 c0
    have hb := hW.2.1
    refine ⟨Nat.le_of_ble_eq_true rfl, ?_⟩
    obtain ⟨A, hA0⟩ : ∃ A, A = (if y = 0 then S 26 else S 27) := ⟨_, rfl⟩
    rw [← hA0] at hP
    have rA' : ∀ a, 0 ≤ a → a < S 0 9 → 0 ≤ A a ∧ A a ≤ 100000 := fun a a0 a1 => by
      rw [hA0]
      split
      · have := mW_26 hW c0 a0 a1; omega
      · exact ((hW.2.2.1 c0).2.1 a a0 a1).2.2.2
    have outer : ∀ (f a : Nat) (P6 P7 : jx_A), (a : Int) + f = S 0 9 → jx_V D l (yX0_filledAt.cls, cX0_filledAt, 8, 0, [], 1, 0, 0, yX0_filledAt.name) Po 6 [(60, n1, x), (0, n2, k), (0, n3, t), (0, n4, y), (0, 0, mm_sum (mm_fa S A k t) a), (0, 0, (a : Int)), P6, P7] [] (0, 0) g (M) := by
      intro f
      induction f with
      | zero =>
        intro a P6 P7 ha
        unfold mm_fill at hP
        rw [show (S 0 9).toNat = a by omega] at hP
        refine jx_runL (o := jo_X0) (cs := cs_X0_filledAt) (hf := jx_nh) jo_X0_ok hc_X0_filledAt (jx_HK_nil rfl) (fun _ => false) 20 ?_
        simp only [jw, ju, jx_tg, Int.cast_ofNat_Int, Int.reduceAdd, Int.reduceToNat, Nat.reduceAdd, Nat.reduceMul, Nat.reduceBEq, Nat.reduceLeDiff, Int.reduceLE, Int.reduceLT, Int.reduceEq, Int.reduceNeg, Int.reduceSub, Int.reduceMul, not_false_eq_true, true_and, and_true, and_self, Bool.or_false, Bool.false_or, Bool.or_true, Bool.true_or, List.length_nil, List.length_cons, Nat.zero_le, or_true, true_or, Nat.le_refl, ↓reduceIte, Nat.reduceEqDiff, forall_const, false_and, and_false, false_implies, implies_true, not_true_eq_false, or_false, false_or, ne_eq, jd_X0_filledAt, jf_X0, r5, js_X0_begin, cs_X0_filledAt, jx_ck_c]
        exact ⟨by omega, fun c => hP, fun c => by omega⟩
      | succ f ih =>
        intro a P6 P7 ha
        have hA := hR.2.2.1 a (by omega) (by omega)
        have k3 := rA_k3 hA hx (by omega)
        have wa := hB.2.2.1 a (by omega) (by omega)
        have ra := rA' a (by omega) (by omega)
        have nx := fun P6 P7 => ih (a + 1) P6 P7 (by omega)
        rw [show mm_sum (mm_fa S A k t) (a + 1) = mm_sum (mm_fa S A k t) a + mm_fa S A k t a from rfl, show (((a + 1 : Nat) : Int)) = (a : Int) + 1 by omega] at nx
        have n118 : ∀ P6 P7 : jx_A, jx_V D l (yX0_filledAt.cls, cX0_filledAt, 8, 0, [], 1, 0, 0, yX0_filledAt.name) Po 118 [(60, n1, x), (0, n2, k), (0, n3, t), (0, n4, y), (0, 0, mm_sum (mm_fa S A k t) a + mm_fa S A k t a), (0, 0, (a : Int)), P6, P7] [] (0, 0) g (M) := by
          intro P6 P7
          refine jx_runL (o := jo_X0) (cs := cs_X0_filledAt) (hf := jx_nh) jo_X0_ok hc_X0_filledAt (jx_HK_nil rfl) (fun p => p == 6) 20 ?_
          simp only [jw, ju, jx_tg, Int.cast_ofNat_Int, Int.reduceAdd, Int.reduceToNat, Nat.reduceAdd, Nat.reduceMul, Nat.reduceBEq, Nat.reduceLeDiff, Int.reduceLE, Int.reduceLT, Int.reduceEq, Int.reduceNeg, Int.reduceSub, Int.reduceMul, not_false_eq_true, true_and, and_true, and_self, Bool.or_false, Bool.false_or, Bool.or_true, Bool.true_or, List.length_nil, List.length_cons, Nat.zero_le, or_true, true_or, Nat.le_refl, ↓reduceIte, Nat.reduceEqDiff, forall_const, false_and, and_false, false_implies, implies_true, not_true_eq_false, or_false, false_or, ne_eq, jd_X0_filledAt, jf_X0, js_X0_begin, cs_X0_filledAt, jx_ck_c]
          exact nx P6 P7
        by_cases cu : S 3 a = k
        · have ef : mm_fa S A k t a = mm_f8 (S 4 a) (A a) (S 0 27) t 8 := if_pos cu
          rw [ef] at n118
          have inner : ∀ (q i : Nat) (P7 : jx_A), i + q = 8 → jx_V D l (yX0_filledAt.cls, cX0_filledAt, 8, 0, [], 1, 0, 0, yX0_filledAt.name) Po 18 [(60, n1, x), (0, n2, k), (0, n3, t), (0, n4, y), (0, 0, mm_sum (mm_fa S A k t) a + mm_f8 (S 4 a) (A a) (S 0 27) t i), (0, 0, (a : Int)), (0, 0, (i : Int)), P7] [] (0, 0) g (M) := by
            intro q
            induction q with
            | zero =>
              intro i P7 hi
              rw [show i = 8 by omega]
              refine jx_runL (o := jo_X0) (cs := cs_X0_filledAt) (hf := jx_nh) jo_X0_ok hc_X0_filledAt (jx_HK_nil rfl) (fun p => p == 118) 20 ?_
              simp only [jw, ju, jx_tg, Int.cast_ofNat_Int, Int.reduceAdd, Int.reduceToNat, Nat.reduceAdd, Nat.reduceMul, Nat.reduceBEq, Nat.reduceLeDiff, Int.reduceLE, Int.reduceLT, Int.reduceEq, Int.reduceNeg, Int.reduceSub, Int.reduceMul, not_false_eq_true, true_and, and_true, and_self, Bool.or_false, Bool.false_or, Bool.or_true, Bool.true_or, List.length_nil, List.length_cons, Nat.zero_le, or_true, true_or, Nat.le_refl, ↓reduceIte, Nat.reduceEqDiff, forall_const, false_and, and_false, false_implies, implies_true, not_true_eq_false, or_false, false_or, ne_eq, jd_X0_filledAt, jf_X0, js_X0_begin, cs_X0_filledAt, jx_ck_c]
              exact n118 _ _
            | succ q iq =>
              intro i P7 hi
              have eb := rLd_b hL hW c0 (show 0 ≤ (a : Int) by omega) (by omega)
              have ef2 := (l2.2 a (by omega) (by omega)).2.2
              have bo := mm_bit_ok (p := S 4 a) (k := i) (by omega) (by omega)
              have b01 := mm_bit_01 (S 4 a) i
              have nx2 := fun P7 => iq (i + 1) P7 (by omega)
              rw [show mm_f8 (S 4 a) (A a) (S 0 27) t (i + 1) = mm_f8 (S 4 a) (A a) (S 0 27) t i + (if (A a + i) % S 0 27 = t then mm_bit (S 4 a) i else 0) from rfl, show (((i + 1 : Nat) : Int)) = (i : Int) + 1 by omega] at nx2
              have eb1 := rLd_c' hL hW c0 (show 0 ≤ (a : Int) by omega) (by omega)
              have md := Int.tmod_eq_emod_of_nonneg (b := S 0 27) (show 0 ≤ A a + i by omega)
              have mr : 0 ≤ (A a + i) % S 0 27 ∧ (A a + i) % S 0 27 < S 0 27 := ⟨Int.emod_nonneg _ c0, Int.emod_lt_of_pos _ (by omega)⟩
              rcases hy with rfl | rfl
              · have eA : A = S 26 := hA0
                rw [eA] at nx2 md mr ra ⊢
                refine jx_runL (o := jo_X0) (cs := cs_X0_filledAt) (hf := jx_nh) jo_X0_ok hc_X0_filledAt (jx_HK_nil rfl) (fun p => p == 18 || p == 118) 70 ?_
                simp only [jw, ju, jx_tg, Int.cast_ofNat_Int, Int.reduceAdd, Int.reduceToNat, Nat.reduceAdd, Nat.reduceMul, Nat.reduceBEq, Nat.reduceLeDiff, Int.reduceLE, Int.reduceLT, Int.reduceEq, Int.reduceNeg, Int.reduceSub, Int.reduceMul, not_false_eq_true, true_and, and_true, and_self, Bool.or_false, Bool.false_or, Bool.or_true, Bool.true_or, List.length_nil, List.length_cons, Nat.zero_le, or_true, true_or, Nat.le_refl, ↓reduceIte, Nat.reduceEqDiff, forall_const, false_and, and_false, false_implies, implies_true, not_true_eq_false, or_false, false_or, ne_eq, jd_X0_filledAt, jf_X0, rA_unit hA, rA_pat hA, bo, l2.1, eb1, md, js_X0_begin, cs_X0_filledAt, jx_ck_c]
                refine ⟨by omega, fun c => by omega, fun c => ⟨by omega, k3, by omega, fun c2 => absurd cu c2, fun c2 => ⟨by omega, k3, by omega, fun c3 => ?_, fun c3 => ⟨by omega, ⟨by omega, by omega, c0⟩, ⟨by omega, rt⟩, fun c4 => ?_, fun c4 => ?_⟩⟩⟩⟩
                · have e0 : mm_bit (S 4 a) i = 0 := by omega
                  rw [e0, ite_self] at nx2
                  rw [Int.add_assoc]; exact nx2 _
                · rw [if_neg c4] at nx2
                  rw [Int.add_assoc]; exact nx2 _
                · rw [if_pos (by omega), show mm_bit (S 4 a) i = 1 by omega] at nx2
                  rw [Int.add_assoc]; exact nx2 _
              · have eA : A = S 27 := hA0
                rw [eA] at nx2 md mr ra ⊢
                refine jx_runL (o := jo_X0) (cs := cs_X0_filledAt) (hf := jx_nh) jo_X0_ok hc_X0_filledAt (jx_HK_nil rfl) (fun p => p == 18 || p == 118) 70 ?_
                simp only [jw, ju, jx_tg, Int.cast_ofNat_Int, Int.reduceAdd, Int.reduceToNat, Nat.reduceAdd, Nat.reduceMul, Nat.reduceBEq, Nat.reduceLeDiff, Int.reduceLE, Int.reduceLT, Int.reduceEq, Int.reduceNeg, Int.reduceSub, Int.reduceMul, not_false_eq_true, true_and, and_true, and_self, Bool.or_false, Bool.false_or, Bool.or_true, Bool.true_or, List.length_nil, List.length_cons, Nat.zero_le, or_true, true_or, Nat.le_refl, ↓reduceIte, Nat.reduceEqDiff, forall_const, false_and, and_false, false_implies, implies_true, not_true_eq_false, or_false, false_or, ne_eq, jd_X0_filledAt, jf_X0, rA_unit hA, rA_pat hA, bo, ef2, l2.1, md, js_X0_begin, cs_X0_filledAt, jx_ck_c]
                refine ⟨by omega, fun c => by omega, fun c => ⟨by omega, k3, by omega, fun c2 => absurd cu c2, fun c2 => ⟨by omega, k3, by omega, fun c3 => ?_, fun c3 => ⟨by omega, ⟨by omega, by omega, c0⟩, ⟨by omega, rt⟩, fun c4 => ?_, fun c4 => ?_⟩⟩⟩⟩
                · have e0 : mm_bit (S 4 a) i = 0 := by omega
                  rw [e0, ite_self] at nx2
                  rw [Int.add_assoc]; exact nx2 _
                · rw [if_neg c4] at nx2
                  rw [Int.add_assoc]; exact nx2 _
                · rw [if_pos (by omega), show mm_bit (S 4 a) i = 1 by omega] at nx2
                  rw [Int.add_assoc]; exact nx2 _
          refine jx_runL (o := jo_X0) (cs := cs_X0_filledAt) (hf := jx_nh) jo_X0_ok hc_X0_filledAt (jx_HK_nil rfl) (fun p => p == 18 || p == 124) 20 ?_
          simp only [jw, ju, jx_tg, Int.cast_ofNat_Int, Int.reduceAdd, Int.reduceToNat, Nat.reduceAdd, Nat.reduceMul, Nat.reduceBEq, Nat.reduceLeDiff, Int.reduceLE, Int.reduceLT, Int.reduceEq, Int.reduceNeg, Int.reduceSub, Int.reduceMul, not_false_eq_true, true_and, and_true, and_self, Bool.or_false, Bool.false_or, Bool.or_true, Bool.true_or, List.length_nil, List.length_cons, Nat.zero_le, or_true, true_or, Nat.le_refl, ↓reduceIte, Nat.reduceEqDiff, forall_const, false_and, and_false, false_implies, implies_true, not_true_eq_false, or_false, false_or, ne_eq, jd_X0_filledAt, jf_X0, r5, js_X0_begin, cs_X0_filledAt, jx_ck_c]
          have s0 := inner 8 0 P7 rfl
          rw [show mm_sum (mm_fa S A k t) a + mm_f8 (S 4 a) (A a) (S 0 27) t 0 = mm_sum (mm_fa S A k t) a from Int.add_zero _] at s0
          exact ⟨by omega, fun c => by omega, fun c => s0⟩
        · have ef : mm_fa S A k t a = 0 := if_neg cu
          rw [ef] at n118
          rw [Int.add_zero] at n118
          refine jx_runL (o := jo_X0) (cs := cs_X0_filledAt) (hf := jx_nh) jo_X0_ok hc_X0_filledAt (jx_HK_nil rfl) (fun p => p == 39 || p == 118 || p == 124) 40 ?_
          simp only [jw, ju, jx_tg, Int.cast_ofNat_Int, Int.reduceAdd, Int.reduceToNat, Nat.reduceAdd, Nat.reduceMul, Nat.reduceBEq, Nat.reduceLeDiff, Int.reduceLE, Int.reduceLT, Int.reduceEq, Int.reduceNeg, Int.reduceSub, Int.reduceMul, not_false_eq_true, true_and, and_true, and_self, Bool.or_false, Bool.false_or, Bool.or_true, Bool.true_or, List.length_nil, List.length_cons, Nat.zero_le, or_true, true_or, Nat.le_refl, ↓reduceIte, Nat.reduceEqDiff, forall_const, false_and, and_false, false_implies, implies_true, not_true_eq_false, or_false, false_or, ne_eq, jd_X0_filledAt, jf_X0, r5, rA_unit hA, js_X0_begin, cs_X0_filledAt, jx_ck_c]
          exact ⟨by omega, fun c => by omega, fun c => ⟨by omega, k3, by omega, fun c2 => n118 _ _, fun c2 => by omega⟩⟩
    refine jx_runL (o := jo_X0) (cs := cs_X0_filledAt) (hf := jx_nh) jo_X0_ok hc_X0_filledAt (jx_HK_nil rfl) (fun p => p == 6) 20 ?_
    simp only [jw, ju, jx_tg, Int.cast_ofNat_Int, Int.reduceAdd, Int.reduceToNat, Nat.reduceAdd, Nat.reduceMul, Nat.reduceBEq, Nat.reduceLeDiff, Int.reduceLE, Int.reduceLT, Int.reduceEq, Int.reduceNeg, Int.reduceSub, Int.reduceMul, not_false_eq_true, true_and, and_true, and_self, Bool.or_false, Bool.false_or, Bool.or_true, Bool.true_or, List.length_nil, List.length_cons, Nat.zero_le, or_true, true_or, Nat.le_refl, ↓reduceIte, Nat.reduceEqDiff, forall_const, false_and, and_false, false_implies, implies_true, not_true_eq_false, or_false, false_or, ne_eq, jd_X0_filledAt, jf_X0, js_X0_begin, cs_X0_filledAt, jx_ck_c]
    exact outer (S 0 9).toNat 0 _ _ (by omega)
  · exact hS.elim
theorem mm_fill_26 {k t : Int} {S : jx_M} (hW : mW S) (c0 : S 0 27 ≠ 0) : mm_fill S (S 26) k t = mm_fill S (S 24) k t := by
  unfold mm_fill
  refine mm_sum_eq _ (fun a a0 a1 => ?_)
  have h1 := (hW.2.2.1 c0).2.1 a a0 (by have := hW.1.1; omega)
  unfold mm_fa
  split
  · have : ∀ n : Nat, mm_f8 (S 4 a) (S 26 a) (S 0 27) t n = mm_f8 (S 4 a) (S 24 a) (S 0 27) t n := fun n => by
      induction n with
      | zero => rfl
      | succ n ih =>
        have e : (S 26 a + n) % S 0 27 = (S 24 a + n) % S 0 27 := by
          rw [h1.2.2.1, show S 0 27 * S 25 a + S 24 a + (n : Int) = (S 24 a + n) + S 0 27 * S 25 a by omega, Int.add_mul_emod_self_left]
        show mm_f8 (S 4 a) (S 26 a) (S 0 27) t n + _ = mm_f8 (S 4 a) (S 24 a) (S 0 27) t n + _
        rw [ih, e]
    exact this 8
  · rfl
def js_X0_filled : jx_Sp := fun as g M Po => match as with
  | [(60, _, x), (0, _, k), (0, _, t)] => ∃ S, (rR x S g M ∧ mW S ∧ jx_r k ∧ jx_r t) ∧ rK x g M Po 0 (f_filled k t S).1 (f_filled k t S).2
  | _ => False
def cs_X0_filled : jx_Cs := [(1135, 3, 0, 0, js_X0_isIn), (1419, 4, 0, 0, js_X0_filledAt), (1161, 2, 0, 0, js_X0_refuse)]
theorem hc_X0_filled {D : jx_D} {l : Launch} : jx_CsOK D l "LoopLane" 5 cs_X0_filled := List.forall_mem_cons.mpr ⟨jc_X0_378 (jt_X0_isIn l) (fun as g M Po (h : js_X0_isIn as g M Po) => by unfold js_X0_isIn at h; split at h <;> first | exact h.elim | exact rfl) (by decide), List.forall_mem_cons.mpr ⟨jc_X0_473 (jt_X0_filledAt l) (fun as g M Po (h : js_X0_filledAt as g M Po) => by unfold js_X0_filledAt at h; split at h <;> first | exact h.elim | exact ⟨_, _, _, rfl, rfl⟩) (by decide), List.forall_mem_cons.mpr ⟨jc_X0_387 (jt_X0_refuse l) (fun as g M Po (h : js_X0_refuse as g M Po) => by unfold js_X0_refuse at h; split at h <;> first | exact h.elim | exact ⟨_, _, _, rfl, rfl⟩) (by decide), fun _ h => absurd h List.not_mem_nil⟩⟩⟩
set_option maxHeartbeats 4000000 in
theorem jt_X0_filled (l : Launch) : jx_Ct l yX0_filled (ws_ yX0_filled cX0_filled 3 (some .int)) 5 0 0 js_X0_filled := by
  refine jx_Ct_c (rc := 0) (by decide) rfl (fun D as g M Po hS => ?_)
  unfold js_X0_filled at hS
  split at hS
  · rename_i n1 x n2 k n3 t
    obtain ⟨S, ⟨hR, hW, rk, rt⟩, hK⟩ := hS
    have hB := hW.1
    have h9 := hB.1
    have x0 := hR.1.1
    have hb := hW.2.1
    have l1 := hR.2.2.2.1.1
    unfold f_filled at hK
    simp only [rK_ite, mno] at hK
    refine ⟨Nat.le_of_ble_eq_true rfl, ?_⟩
    by_cases c0 : S 0 27 = 0
    · rw [if_pos c0] at l1
      refine jx_runL (o := jo_X0) (cs := cs_X0_filled) (hf := jx_nh) jo_X0_ok hc_X0_filled (jx_HK_nil rfl) (fun p => p == 14) 20 ?_
      simp only [jw, ju, jx_tg, Int.cast_ofNat_Int, Int.reduceAdd, Int.reduceToNat, Nat.reduceAdd, Nat.reduceMul, Nat.reduceBEq, Nat.reduceLeDiff, Int.reduceLE, Int.reduceLT, Int.reduceEq, Int.reduceNeg, Int.reduceSub, Int.reduceMul, not_false_eq_true, true_and, and_true, and_self, Bool.or_false, Bool.false_or, Bool.or_true, Bool.true_or, List.length_nil, List.length_cons, Nat.zero_le, or_true, true_or, Nat.le_refl, ↓reduceIte, Nat.reduceEqDiff, forall_const, false_and, and_false, false_implies, implies_true, not_true_eq_false, or_false, false_or, ne_eq, jd_X0_filled, jf_X0, l1, js_X0_filledAt, js_X0_isIn, js_X0_refuse, cs_X0_filled, jx_ck_c]
      exact rK_no h9.2 (by decide) hR rFr_rf (hK.1 c0)
    · rw [if_neg c0] at l1
      have hK2 := hK.2 c0
      have l2 := hR.2.2.2.1.2 c0
      have at52 : ¬ ((0 ≤ k ∧ k ≤ 5) ∧ (0 ≤ t ∧ t < S 0 27)) → jx_V D l (yX0_filled.cls, cX0_filled, 3, 0, [], 5, 0, 0, yX0_filled.name) Po 52 [(60, n1, x), (0, n2, k), (0, n3, t)] [] (0, 0) g (M) := by
        intro c
        refine jx_runL (o := jo_X0) (cs := cs_X0_filled) (hf := jx_nh) jo_X0_ok hc_X0_filled (jx_HK_nil rfl) (fun _ => false) 20 ?_
        simp only [jw, ju, jx_tg, Int.cast_ofNat_Int, Int.reduceAdd, Int.reduceToNat, Nat.reduceAdd, Nat.reduceMul, Nat.reduceBEq, Nat.reduceLeDiff, Int.reduceLE, Int.reduceLT, Int.reduceEq, Int.reduceNeg, Int.reduceSub, Int.reduceMul, not_false_eq_true, true_and, and_true, and_self, Bool.or_false, Bool.false_or, Bool.or_true, Bool.true_or, List.length_nil, List.length_cons, Nat.zero_le, or_true, true_or, Nat.le_refl, ↓reduceIte, Nat.reduceEqDiff, forall_const, false_and, and_false, false_implies, implies_true, not_true_eq_false, or_false, false_or, ne_eq, jd_X0_filled, jf_X0, js_X0_filledAt, js_X0_isIn, js_X0_refuse, cs_X0_filled, jx_ck_c]
        exact rK_no h9.2 (by decide) hR rFr_rf (hK2.2 c)
      refine jx_runL (o := jo_X0) (cs := cs_X0_filled) (hf := jx_nh) jo_X0_ok hc_X0_filled (jx_HK_nil rfl) (fun p => p == 7 || p == 49 || p == 52) 60 ?_
      simp only [jw, ju, jx_tg, Int.cast_ofNat_Int, Int.reduceAdd, Int.reduceToNat, Nat.reduceAdd, Nat.reduceMul, Nat.reduceBEq, Nat.reduceLeDiff, Int.reduceLE, Int.reduceLT, Int.reduceEq, Int.reduceNeg, Int.reduceSub, Int.reduceMul, not_false_eq_true, true_and, and_true, and_self, Bool.or_false, Bool.false_or, Bool.or_true, Bool.true_or, List.length_nil, List.length_cons, Nat.zero_le, or_true, true_or, Nat.le_refl, ↓reduceIte, Nat.reduceEqDiff, forall_const, false_and, and_false, false_implies, implies_true, not_true_eq_false, or_false, false_or, ne_eq, jd_X0_filled, jf_X0, l1, l2.1, js_X0_filledAt, js_X0_isIn, js_X0_refuse, cs_X0_filled, jx_ck_c]
      refine ⟨rk, fun c => ⟨rt, by omega, fun c2 => ⟨S, ⟨x0, hR.2.1, hR.2.2.2.1, hW, c0, c, rt⟩, ?_⟩, fun c2 => at52 (by omega)⟩, fun c => at52 (fun z => c z.1)⟩
      rw [mm_fill_26 hW c0]
      refine jx_runL (o := jo_X0) (cs := cs_X0_filled) (hf := jx_nh) jo_X0_ok hc_X0_filled (jx_HK_nil rfl) (fun _ => false) 20 ?_
      simp only [jw, ju, jx_tg, Int.cast_ofNat_Int, Int.reduceAdd, Int.reduceToNat, Nat.reduceAdd, Nat.reduceMul, Nat.reduceBEq, Nat.reduceLeDiff, Int.reduceLE, Int.reduceLT, Int.reduceEq, Int.reduceNeg, Int.reduceSub, Int.reduceMul, not_false_eq_true, true_and, and_true, and_self, Bool.or_false, Bool.false_or, Bool.or_true, Bool.true_or, List.length_nil, List.length_cons, Nat.zero_le, or_true, true_or, Nat.le_refl, ↓reduceIte, Nat.reduceEqDiff, forall_const, false_and, and_false, false_implies, implies_true, not_true_eq_false, or_false, false_or, ne_eq, jd_X0_filled, jf_X0, js_X0_filledAt, js_X0_isIn, js_X0_refuse, cs_X0_filled, jx_ck_c]
      exact rK_s hR (hK2.1 ⟨c, by omega⟩)
  · exact hS.elim
def js_X0_names : jx_Sp := fun as g M Po => match as with
  | [(60, _, x), (0, _, a)] => ∃ S, (rR x S g M ∧ mW S ∧ jx_r a) ∧ rK x g M Po 0 (f_names a S).1 (f_names a S).2
  | _ => False
def cs_X0_names : jx_Cs := [(1278, 2, 0, 0, js_X0_isAct), (702, 2, 0, 0, js_X0_namesOf), (1161, 2, 0, 0, js_X0_refuse)]
theorem hc_X0_names {D : jx_D} {l : Launch} : jx_CsOK D l "LoopLane" 5 cs_X0_names := List.forall_mem_cons.mpr ⟨jc_X0_426 (jt_X0_isAct l) (fun as g M Po (h : js_X0_isAct as g M Po) => by unfold js_X0_isAct at h; split at h <;> first | exact h.elim | exact ⟨_, _, _, rfl, rfl⟩) (by decide), List.forall_mem_cons.mpr ⟨jc_X0_234 (jt_X0_namesOf l) (fun as g M Po (h : js_X0_namesOf as g M Po) => by unfold js_X0_namesOf at h; split at h <;> first | exact h.elim | exact ⟨_, _, _, rfl, rfl⟩) (by decide), List.forall_mem_cons.mpr ⟨jc_X0_387 (jt_X0_refuse l) (fun as g M Po (h : js_X0_refuse as g M Po) => by unfold js_X0_refuse at h; split at h <;> first | exact h.elim | exact ⟨_, _, _, rfl, rfl⟩) (by decide), fun _ h => absurd h List.not_mem_nil⟩⟩⟩
set_option maxHeartbeats 4000000 in
theorem jt_X0_names (l : Launch) : jx_Ct l yX0_names (ws_ yX0_names cX0_names 2 (some .int)) 5 0 0 js_X0_names := by
  refine jx_Ct_c (rc := 0) (by decide) rfl (fun D as g M Po hS => ?_)
  unfold js_X0_names at hS
  split at hS
  · rename_i n1 x n2 a
    obtain ⟨S, ⟨hR, hW, ra⟩, hK⟩ := hS
    have hB := hW.1
    have h9 := hB.1
    have x0 := hR.1.1
    have r5 := hR.2.1.1
    have l1 := hR.2.2.2.1.1
    unfold f_names mm_isa at hK
    simp only [rK_ite, mno] at hK
    refine ⟨Nat.le_of_ble_eq_true rfl, ?_⟩
    by_cases c0 : S 0 27 = 0
    · rw [if_pos c0] at l1
      refine jx_runL (o := jo_X0) (cs := cs_X0_names) (hf := jx_nh) jo_X0_ok hc_X0_names (jx_HK_nil rfl) (fun p => p == 14) 20 ?_
      simp only [jw, ju, jx_tg, Int.cast_ofNat_Int, Int.reduceAdd, Int.reduceToNat, Nat.reduceAdd, Nat.reduceMul, Nat.reduceBEq, Nat.reduceLeDiff, Int.reduceLE, Int.reduceLT, Int.reduceEq, Int.reduceNeg, Int.reduceSub, Int.reduceMul, not_false_eq_true, true_and, and_true, and_self, Bool.or_false, Bool.false_or, Bool.or_true, Bool.true_or, List.length_nil, List.length_cons, Nat.zero_le, or_true, true_or, Nat.le_refl, ↓reduceIte, Nat.reduceEqDiff, forall_const, false_and, and_false, false_implies, implies_true, not_true_eq_false, or_false, false_or, ne_eq, jd_X0_names, jf_X0, l1, js_X0_isAct, js_X0_namesOf, js_X0_refuse, cs_X0_names, jx_ck_c]
      exact rK_no h9.2 (by decide) hR rFr_rf (hK.1 c0)
    · rw [if_neg c0] at l1
      have hK2 := hK.2 c0
      refine jx_runL (o := jo_X0) (cs := cs_X0_names) (hf := jx_nh) jo_X0_ok hc_X0_names (jx_HK_nil rfl) (fun p => p == 7) 60 ?_
      simp only [jw, ju, jx_tg, Int.cast_ofNat_Int, Int.reduceAdd, Int.reduceToNat, Nat.reduceAdd, Nat.reduceMul, Nat.reduceBEq, Nat.reduceLeDiff, Int.reduceLE, Int.reduceLT, Int.reduceEq, Int.reduceNeg, Int.reduceSub, Int.reduceMul, not_false_eq_true, true_and, and_true, and_self, Bool.or_false, Bool.false_or, Bool.or_true, Bool.true_or, List.length_nil, List.length_cons, Nat.zero_le, or_true, true_or, Nat.le_refl, ↓reduceIte, Nat.reduceEqDiff, forall_const, false_and, and_false, false_implies, implies_true, not_true_eq_false, or_false, false_or, ne_eq, jd_X0_names, jf_X0, l1, r5, js_X0_isAct, js_X0_namesOf, js_X0_refuse, cs_X0_names, jx_ck_c]
      exact ⟨⟨ra, by omega⟩, fun c => ⟨S, ⟨x0, hR.2.1, hR.2.2.2.1, hW, c0, c⟩, rK_s hR (hK2.1 c)⟩, fun c => rK_no h9.2 (by decide) hR rFr_rf (hK2.2 c)⟩
  · exact hS.elim
theorem mm_placesW {a : Int} {S : jx_M} (hW : mW S) (c0 : S 0 27 ≠ 0) (ha : 0 ≤ a ∧ a < S 0 9) : 1 ≤ mm_places S a ∧ mm_places S a ≤ 100241 := by
  have hB := hW.1
  have hb := hW.2.1
  have bk : mm_bk S := ⟨fun v v0 v1 => by have := mW_26 hW c0 v0 v1; omega, fun k k0 k1 => by rcases mB_op hB k0 k1 with q | q <;> omega⟩
  have l := mm_life_r hb ha bk (3 * S 0 9).toNat (by have := hB.1; omega)
  have h1 : 0 ≤ mm_life S a (3 * S 0 9).toNat / S 0 27 := Int.ediv_nonneg l.1 hb.1
  have h2 : mm_life S a (3 * S 0 9).toNat / S 0 27 ≤ mm_life S a (3 * S 0 9).toNat := Int.ediv_le_self _ l.1
  unfold mm_places
  omega
def js_X0_fewest : jx_Sp := fun as g M Po => match as with
  | [(60, _, x), (0, _, w)] => ∃ S, (rR x S g M ∧ mW S ∧ jx_r w) ∧ rK x g M Po 0 (f_fewest w S).1 (f_fewest w S).2
  | _ => False
def cs_X0_fewest : jx_Cs := [(702, 2, 0, 0, js_X0_namesOf), (319, 2, 0, 0, js_J10_max), (1161, 2, 0, 0, js_X0_refuse)]
theorem hc_X0_fewest {D : jx_D} {l : Launch} : jx_CsOK D l "LoopLane" 5 cs_X0_fewest := List.forall_mem_cons.mpr ⟨jc_X0_234 (jt_X0_namesOf l) (fun as g M Po (h : js_X0_namesOf as g M Po) => by unfold js_X0_namesOf at h; split at h <;> first | exact h.elim | exact ⟨_, _, _, rfl, rfl⟩) (by decide), List.forall_mem_cons.mpr ⟨jx_CS_max q910, List.forall_mem_cons.mpr ⟨jc_X0_387 (jt_X0_refuse l) (fun as g M Po (h : js_X0_refuse as g M Po) => by unfold js_X0_refuse at h; split at h <;> first | exact h.elim | exact ⟨_, _, _, rfl, rfl⟩) (by decide), fun _ h => absurd h List.not_mem_nil⟩⟩⟩
set_option maxHeartbeats 4000000 in
theorem jt_X0_fewest (l : Launch) : jx_Ct l yX0_fewest (ws_ yX0_fewest cX0_fewest 5 (some .int)) 5 0 0 js_X0_fewest := by
  refine jx_Ct_c (rc := 0) (by decide) rfl (fun D as g M Po hS => ?_)
  unfold js_X0_fewest at hS
  split at hS
  · rename_i n1 x n2 w
    obtain ⟨S, ⟨hR, hW, r2⟩, hK⟩ := hS
    have hB := hW.1
    have h9 := hB.1
    have x0 := hR.1.1
    have r5 := hR.2.1.1
    have l1 := hR.2.2.2.1.1
    unfold f_fewest at hK
    simp only [rK_ite, mno] at hK
    refine ⟨Nat.le_of_ble_eq_true rfl, ?_⟩
    by_cases c0 : S 0 27 = 0
    · rw [if_pos c0] at l1
      refine jx_runL (o := jo_X0) (cs := cs_X0_fewest) (hf := jx_nh) jo_X0_ok hc_X0_fewest (jx_HK_nil rfl) (fun p => p == 14) 20 ?_
      simp only [jw, ju, jx_tg, Int.cast_ofNat_Int, Int.reduceAdd, Int.reduceToNat, Nat.reduceAdd, Nat.reduceMul, Nat.reduceBEq, Nat.reduceLeDiff, Int.reduceLE, Int.reduceLT, Int.reduceEq, Int.reduceNeg, Int.reduceSub, Int.reduceMul, not_false_eq_true, true_and, and_true, and_self, Bool.or_false, Bool.false_or, Bool.or_true, Bool.true_or, List.length_nil, List.length_cons, Nat.zero_le, or_true, true_or, Nat.le_refl, ↓reduceIte, Nat.reduceEqDiff, forall_const, false_and, and_false, false_implies, implies_true, not_true_eq_false, or_false, false_or, ne_eq, jd_X0_fewest, jf_X0, l1, js_J10_max, js_X0_namesOf, js_X0_refuse, cs_X0_fewest, jx_ck_c]
      exact rK_no h9.2 (by decide) hR rFr_rf (hK.1 c0)
    · rw [if_neg c0] at l1
      have hK2 := hK.2 c0
      have loop : (0 ≤ w ∧ w ≤ 1) → ∀ (f k : Nat), (k : Int) + f = S 0 9 → jx_V D l (yX0_fewest.cls, cX0_fewest, 5, 0, [], 5, 0, 0, yX0_fewest.name) Po 37 [(60, n1, x), (0, n2, w), (0, 0, mm_sum (mm_places S) k), (0, 0, mm_max (mm_places S) k), (0, 0, (k : Int))] [] (0, 0) g (M) := by
        intro cw f
        induction f with
        | zero =>
          intro k hk
          have hK3 := hK2.1 cw
          rw [show (S 0 9).toNat = k by omega] at hK3
          refine jx_runL (o := jo_X0) (cs := cs_X0_fewest) (hf := jx_nh) jo_X0_ok hc_X0_fewest (jx_HK_nil rfl) (fun p => p == 46 || p == 86) 40 ?_
          simp only [jw, ju, jx_tg, Int.cast_ofNat_Int, Int.reduceAdd, Int.reduceToNat, Nat.reduceAdd, Nat.reduceMul, Nat.reduceBEq, Nat.reduceLeDiff, Int.reduceLE, Int.reduceLT, Int.reduceEq, Int.reduceNeg, Int.reduceSub, Int.reduceMul, not_false_eq_true, true_and, and_true, and_self, Bool.or_false, Bool.false_or, Bool.or_true, Bool.true_or, List.length_nil, List.length_cons, Nat.zero_le, or_true, true_or, Nat.le_refl, ↓reduceIte, Nat.reduceEqDiff, forall_const, false_and, and_false, false_implies, implies_true, not_true_eq_false, or_false, false_or, ne_eq, jd_X0_fewest, jf_X0, r5, js_J10_max, js_X0_namesOf, js_X0_refuse, cs_X0_fewest, jx_ck_c]
          refine ⟨by omega, fun c => ⟨r2, fun c2 => ?_, fun c2 => ?_⟩, fun c => by omega⟩
          · refine jx_runL (o := jo_X0) (cs := cs_X0_fewest) (hf := jx_nh) jo_X0_ok hc_X0_fewest (jx_HK_nil rfl) (fun _ => false) 20 ?_
            simp only [jw, ju, jx_tg, Int.cast_ofNat_Int, Int.reduceAdd, Int.reduceToNat, Nat.reduceAdd, Nat.reduceMul, Nat.reduceBEq, Nat.reduceLeDiff, Int.reduceLE, Int.reduceLT, Int.reduceEq, Int.reduceNeg, Int.reduceSub, Int.reduceMul, not_false_eq_true, true_and, and_true, and_self, Bool.or_false, Bool.false_or, Bool.or_true, Bool.true_or, List.length_nil, List.length_cons, Nat.zero_le, or_true, true_or, Nat.le_refl, ↓reduceIte, Nat.reduceEqDiff, forall_const, false_and, and_false, false_implies, implies_true, not_true_eq_false, or_false, false_or, ne_eq, jd_X0_fewest, jf_X0, js_J10_max, js_X0_namesOf, js_X0_refuse, cs_X0_fewest, jx_ck_c]
            rw [Int.mul_comm]
            exact rK_s hR (hK3.2 (by omega))
          · refine jx_runL (o := jo_X0) (cs := cs_X0_fewest) (hf := jx_nh) jo_X0_ok hc_X0_fewest (jx_HK_nil rfl) (fun _ => false) 20 ?_
            simp only [jw, ju, jx_tg, Int.cast_ofNat_Int, Int.reduceAdd, Int.reduceToNat, Nat.reduceAdd, Nat.reduceMul, Nat.reduceBEq, Nat.reduceLeDiff, Int.reduceLE, Int.reduceLT, Int.reduceEq, Int.reduceNeg, Int.reduceSub, Int.reduceMul, not_false_eq_true, true_and, and_true, and_self, Bool.or_false, Bool.false_or, Bool.or_true, Bool.true_or, List.length_nil, List.length_cons, Nat.zero_le, or_true, true_or, Nat.le_refl, ↓reduceIte, Nat.reduceEqDiff, forall_const, false_and, and_false, false_implies, implies_true, not_true_eq_false, or_false, false_or, ne_eq, jd_X0_fewest, jf_X0, js_J10_max, js_X0_namesOf, js_X0_refuse, cs_X0_fewest, jx_ck_c]
            exact rK_s hR (hK3.1 (by omega))
        | succ f ih =>
          intro k hk
          have nx := ih (k + 1) (by omega)
          have pr := mm_placesW hW c0 (show 0 ≤ (k : Int) ∧ (k : Int) < S 0 9 by omega)
          have rm := mm_max_r (mm_places S) 100241 (by omega) k (fun v a b => (mm_placesW hW c0 ⟨a, by omega⟩).2)
          rw [show mm_sum (mm_places S) (k + 1) = mm_sum (mm_places S) k + mm_places S k from rfl, show mm_max (mm_places S) (k + 1) = max (mm_max (mm_places S) k) (mm_places S k) from rfl, show (((k + 1 : Nat) : Int)) = (k : Int) + 1 by omega] at nx
          refine jx_runL (o := jo_X0) (cs := cs_X0_fewest) (hf := jx_nh) jo_X0_ok hc_X0_fewest (jx_HK_nil rfl) (fun p => p == 37 || p == 72) 40 ?_
          simp only [jw, ju, jx_tg, Int.cast_ofNat_Int, Int.reduceAdd, Int.reduceToNat, Nat.reduceAdd, Nat.reduceMul, Nat.reduceBEq, Nat.reduceLeDiff, Int.reduceLE, Int.reduceLT, Int.reduceEq, Int.reduceNeg, Int.reduceSub, Int.reduceMul, not_false_eq_true, true_and, and_true, and_self, Bool.or_false, Bool.false_or, Bool.or_true, Bool.true_or, List.length_nil, List.length_cons, Nat.zero_le, or_true, true_or, Nat.le_refl, ↓reduceIte, Nat.reduceEqDiff, forall_const, false_and, and_false, false_implies, implies_true, not_true_eq_false, or_false, false_or, ne_eq, jd_X0_fewest, jf_X0, r5, js_J10_max, js_X0_namesOf, js_X0_refuse, cs_X0_fewest, jx_ck_c]
          refine ⟨by omega, fun c => by omega, fun c => ⟨S, ⟨x0, hR.2.1, hR.2.2.2.1, hW, c0, by omega⟩, S, ⟨x0, hR.2.1, hR.2.2.2.1, hW, c0, by omega⟩, ⟨⟨by omega, by omega⟩, by omega, by omega⟩, nx⟩⟩
      have at30 : (0 ≤ w ∧ w ≤ 1) → jx_V D l (yX0_fewest.cls, cX0_fewest, 5, 0, [], 5, 0, 0, yX0_fewest.name) Po 30 [(60, n1, x), (0, n2, w), (5, 0, 0), (5, 0, 0), (5, 0, 0)] [] (0, 0) g (M) := by
        intro cw
        refine jx_runL (o := jo_X0) (cs := cs_X0_fewest) (hf := jx_nh) jo_X0_ok hc_X0_fewest (jx_HK_nil rfl) (fun p => p == 37) 20 ?_
        simp only [jw, ju, jx_tg, Int.cast_ofNat_Int, Int.reduceAdd, Int.reduceToNat, Nat.reduceAdd, Nat.reduceMul, Nat.reduceBEq, Nat.reduceLeDiff, Int.reduceLE, Int.reduceLT, Int.reduceEq, Int.reduceNeg, Int.reduceSub, Int.reduceMul, not_false_eq_true, true_and, and_true, and_self, Bool.or_false, Bool.false_or, Bool.or_true, Bool.true_or, List.length_nil, List.length_cons, Nat.zero_le, or_true, true_or, Nat.le_refl, ↓reduceIte, Nat.reduceEqDiff, forall_const, false_and, and_false, false_implies, implies_true, not_true_eq_false, or_false, false_or, ne_eq, jd_X0_fewest, jf_X0, js_J10_max, js_X0_namesOf, js_X0_refuse, cs_X0_fewest, jx_ck_c]
        exact loop cw (S 0 9).toNat 0 (by omega)
      refine jx_runL (o := jo_X0) (cs := cs_X0_fewest) (hf := jx_nh) jo_X0_ok hc_X0_fewest (jx_HK_nil rfl) (fun p => p == 7 || p == 30) 60 ?_
      simp only [jw, ju, jx_tg, Int.cast_ofNat_Int, Int.reduceAdd, Int.reduceToNat, Nat.reduceAdd, Nat.reduceMul, Nat.reduceBEq, Nat.reduceLeDiff, Int.reduceLE, Int.reduceLT, Int.reduceEq, Int.reduceNeg, Int.reduceSub, Int.reduceMul, not_false_eq_true, true_and, and_true, and_self, Bool.or_false, Bool.false_or, Bool.or_true, Bool.true_or, List.length_nil, List.length_cons, Nat.zero_le, or_true, true_or, Nat.le_refl, ↓reduceIte, Nat.reduceEqDiff, forall_const, false_and, and_false, false_implies, implies_true, not_true_eq_false, or_false, false_or, ne_eq, jd_X0_fewest, jf_X0, l1, js_J10_max, js_X0_namesOf, js_X0_refuse, cs_X0_fewest, jx_ck_c]
      exact ⟨r2, fun c => at30 (by omega), fun c => ⟨r2, fun c2 => at30 (by omega), fun c2 => rK_no h9.2 (by decide) hR rFr_rf (hK2.2 (by omega))⟩⟩
  · exact hS.elim
