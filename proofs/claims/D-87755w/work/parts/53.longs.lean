/-! Lane.longs: a row, or the machine's refusals -/
set_option maxRecDepth 100000
theorem jx_nocast_IJ : Cond.not (.castable "[I" "[J") ∈ flatC (Jvm.Cond.and given_1 narrow_1) := by decide +kernel
def js_X1_longs : jx_Sp := fun as g M Po => match as with
  | [(61, _, x), (0, _, s)] => jx_r s ∧ (¬ (0 ≤ s ∧ s < 8) → Po (4, 3, (g.1 : Int) + 2) (g.1 + 3, g.2) M) ∧
      (0 ≤ s → s < 8 → (M (x + 2 + s) 0 < 0 → Po (4, 1, (g.1 : Int)) (g.1 + 1, g.2) M) ∧
        (0 ≤ M (x + 2 + s) 0 → (∃ n, g.2 (M (x + 2 + s) 0) = (11, n) ∧ Po (11, n, M (x + 2 + s) 0) g M) ∨ (∃ n, g.2 (M (x + 2 + s) 0) = (10, n) ∧ Po (4, 2, (g.1 : Int) + 2) (g.1 + 3, g.2) M)))
  | _ => False
set_option maxHeartbeats 4000000 in
theorem jt_X1_longs (l : Launch) : jx_Ct l yX1_longs (ws_ yX1_longs cX1_longs 4 (Option.some (Jvm.ClassFile.FieldType.array Jvm.ClassFile.FieldType.long))) 0 3 2000 js_X1_longs := by
  refine jx_Ct_c (rc := 2) (by decide) (by simp [jx_rt, FieldType.isReference]) (fun D as g M Po hS => ?_)
  unfold js_X1_longs at hS
  split at hS
  · rename_i n1 x n2 s
    obtain ⟨rs, hP1, hP2⟩ := hS
    refine ⟨Nat.le_of_ble_eq_true rfl, ?_⟩
    refine jx_runL (o := jo_X1) (cs := []) (hf := jx_nh) jo_X1_ok jx_cs0 (jx_HK_nil rfl) (fun p => p == 5) 20 ?_
    simp only [jw, ju, jx_tg, Int.cast_ofNat_Int, Int.reduceAdd, Int.reduceToNat, Nat.reduceAdd, Nat.reduceMul, Nat.reduceBEq, Nat.reduceLeDiff, Int.reduceLE, Int.reduceLT, Int.reduceEq, Int.reduceNeg, Int.reduceSub, Int.reduceMul, not_false_eq_true, true_and, and_true, and_self, Bool.or_false, Bool.false_or, Bool.or_true, Bool.true_or, List.length_nil, List.length_cons, Nat.zero_le, or_true, true_or, Nat.le_refl, ↓reduceIte, Nat.reduceEqDiff, forall_const, false_and, and_false, false_implies, implies_true, not_true_eq_false, or_false, false_or, ne_eq, jd_X1_longs, jf_X1]
    by_cases c : 0 ≤ s ∧ s < 8
    · obtain ⟨hN, hY⟩ := hP2 c.1 c.2
      refine jx_runL (o := jo_X1) (cs := []) (hf := jx_nh) jo_X1_ok jx_cs0 (jx_HK_nil rfl) (fun p => p == 9) 20 ?_
      simp only [jw, ju, jx_tg, Int.cast_ofNat_Int, Int.reduceAdd, Int.reduceToNat, Nat.reduceAdd, Nat.reduceMul, Nat.reduceBEq, Nat.reduceLeDiff, Int.reduceLE, Int.reduceLT, Int.reduceEq, Int.reduceNeg, Int.reduceSub, Int.reduceMul, not_false_eq_true, true_and, and_true, and_self, Bool.or_false, Bool.false_or, Bool.or_true, Bool.true_or, List.length_nil, List.length_cons, Nat.zero_le, or_true, true_or, Nat.le_refl, ↓reduceIte, Nat.reduceEqDiff, forall_const, false_and, and_false, false_implies, implies_true, not_true_eq_false, or_false, false_or, ne_eq, jd_X1_longs, jf_X1]
      refine ⟨c, ?_⟩
      rw [show x + 1 + (1 + s) = x + 2 + s by omega]
      generalize M (x + 2 + s) 0 = z at hN hY
      by_cases hz : z < 0
      · refine jx_s_castN (idx := 22) (by decide +kernel) hz ?_
        refine jx_runL (o := jo_X1) (cs := []) (hf := jx_nh) jo_X1_ok jx_cs0 (jx_HK_nil rfl) (fun p => p == 14) 20 ?_
        simp only [jw, ju, jx_tg, Int.cast_ofNat_Int, Int.reduceAdd, Int.reduceToNat, Nat.reduceAdd, Nat.reduceMul, Nat.reduceBEq, Nat.reduceLeDiff, Int.reduceLE, Int.reduceLT, Int.reduceEq, Int.reduceNeg, Int.reduceSub, Int.reduceMul, not_false_eq_true, true_and, and_true, and_self, Bool.or_false, Bool.false_or, Bool.or_true, Bool.true_or, List.length_nil, List.length_cons, Nat.zero_le, or_true, true_or, Nat.le_refl, ↓reduceIte, Nat.reduceEqDiff, forall_const, false_and, and_false, false_implies, implies_true, not_true_eq_false, or_false, false_or, ne_eq, jd_X1_longs, jf_X1]
        refine jx_s_npe (hf := jx_nh) (jx_HK_nil rfl) (jx_t_alen (by decide +kernel) hz) (by decide) ⟨by decide, by decide⟩ ?_
        exact hN hz
      · rcases hY (by omega) with ⟨n, hg, hP⟩ | ⟨n, hg, hP⟩
        · refine jx_s_castY (nm := "[J") (k := 11) (n := n) (by decide +kernel) q852 (by decide) hg (by decide) (by decide) (by decide) (.inr ⟨.long, rfl, by decide +kernel⟩) ?_
          refine jx_runL (o := jo_X1) (cs := []) (hf := jx_nh) jo_X1_ok jx_cs0 (jx_HK_nil rfl) (fun _ => false) 20 ?_
          simp only [jw, ju, jx_tg, Int.cast_ofNat_Int, Int.reduceAdd, Int.reduceToNat, Nat.reduceAdd, Nat.reduceMul, Nat.reduceBEq, Nat.reduceLeDiff, Int.reduceLE, Int.reduceLT, Int.reduceEq, Int.reduceNeg, Int.reduceSub, Int.reduceMul, not_false_eq_true, true_and, and_true, and_self, Bool.or_false, Bool.false_or, Bool.or_true, Bool.true_or, List.length_nil, List.length_cons, Nat.zero_le, or_true, true_or, Nat.le_refl, ↓reduceIte, Nat.reduceEqDiff, forall_const, false_and, and_false, false_implies, implies_true, not_true_eq_false, or_false, false_or, ne_eq, jd_X1_longs, jf_X1]
          exact hP
        · refine jx_s_msg (x := 2) (hf := jx_nh) (jx_HK_nil rfl) jx_xg2 (jx_t_cast (n1 := "[I") (n2 := "[J") (k := 10) (n := n) (by decide +kernel) q852 (by decide) hg (by decide) (.inr ⟨.int, rfl, by decide +kernel⟩) jx_nocast_IJ (by decide +kernel) (by decide +kernel) (by decide) (by decide)) (by simp) ⟨by decide, by decide⟩ ?_
          exact hP
    · refine jx_s_msg (x := 3) (hf := jx_nh) (jx_HK_nil rfl) jx_xg3 (jx_t_aaload (k := 31) (by decide) (by decide) rfl (by decide +kernel) rs c) (by decide) ⟨by decide, by decide⟩ ?_
      exact hP1 c
  · exact hS.elim
