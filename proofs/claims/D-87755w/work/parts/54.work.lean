/-! Fetch.work -/
set_option maxRecDepth 100000
/-- a place of a row of a slot: what is found, or the machine's refusal -/
def js_X10_work : jx_Sp := fun as g M Po => match as with
  | [(81, _, a), (61, _, x), (1, _, p), (1, _, _), (1, _, _)] => (0 ≤ M a 7 ∧ M a 7 < 8) ∧ (M (x + 2 + M a 7) 0 < 0 → Po (4, 1, (g.1 : Int)) (g.1 + 1, g.2) M) ∧
      (0 ≤ M (x + 2 + M a 7) 0 → (∃ n, g.2 (M (x + 2 + M a 7) 0) = (11, n) ∧ (0 ≤ f_place p ∧ f_place p < n → Po (1, 0, M (M (x + 2 + M a 7) 0) (f_place p)) g M) ∧ (¬ (0 ≤ f_place p ∧ f_place p < n) → Po (4, 3, (g.1 : Int) + 2) (g.1 + 3, g.2) M)) ∨
        (∃ n, g.2 (M (x + 2 + M a 7) 0) = (10, n) ∧ Po (4, 2, (g.1 : Int) + 2) (g.1 + 3, g.2) M))
  | _ => False
def cs_X10_work : jx_Cs := [(45, 2, 3, 2000, js_X1_longs), (64, 1, 0, 0, js_X10_place)]
theorem hc_X10_work {D : jx_D} {l : Launch} : jx_CsOK D l "LoopLane$Fetch" 1 cs_X10_work := List.forall_mem_cons.mpr ⟨jc_X10_15 (jt_X1_longs l) (fun as g M Po (h : js_X1_longs as g M Po) => by unfold js_X1_longs at h; split at h <;> first | exact h.elim | exact ⟨_, _, _, rfl, rfl⟩) (by decide), List.forall_mem_cons.mpr ⟨jc_X10_21 (jt_X10_place l) (fun as g M Po (h : js_X10_place as g M Po) => by unfold js_X10_place at h; split at h <;> first | exact h.elim | exact rfl) (by decide), fun _ h => absurd h List.not_mem_nil⟩⟩
set_option maxHeartbeats 4000000 in
theorem jt_X10_work (l : Launch) : jx_Ct l yX10_work (ws_ yX10_work cX10_work 8 (some .long)) 1 6 4000 js_X10_work := by
  refine jx_Ct_c (rc := 1) (by decide) rfl (fun D as g M Po hS => ?_)
  unfold js_X10_work at hS
  split at hS
  · rename_i n1 a n2 x n3 p n4 q n5 r
    obtain ⟨hs, hN, hY⟩ := hS
    refine ⟨Nat.le_of_ble_eq_true rfl, ?_⟩
    refine jx_runL (o := jo_X10) (cs := cs_X10_work) (hf := jx_nh) jo_X10_ok hc_X10_work (jx_HK_nil rfl) (fun p => p == 12) 20 ?_
    simp only [jw, ju, jx_tg, Int.cast_ofNat_Int, Int.reduceAdd, Int.reduceToNat, Nat.reduceAdd, Nat.reduceMul, Nat.reduceBEq, Nat.reduceLeDiff, Int.reduceLE, Int.reduceLT, Int.reduceEq, Int.reduceNeg, Int.reduceSub, Int.reduceMul, not_false_eq_true, true_and, and_true, and_self, Bool.or_false, Bool.false_or, Bool.or_true, Bool.true_or, List.length_nil, List.length_cons, Nat.zero_le, or_true, true_or, Nat.le_refl, ↓reduceIte, Nat.reduceEqDiff, forall_const, false_and, and_false, false_implies, implies_true, not_true_eq_false, or_false, false_or, ne_eq, jd_X10_work, jf_X10, js_X10_place, js_X1_longs, cs_X10_work, jx_ck_c]
    refine ⟨⟨by omega, by omega⟩, fun w => absurd hs w, fun _ _ => ⟨hN, fun hz => ?_⟩⟩
    rcases hY hz with ⟨n, hg, hA, hB⟩ | ⟨n, hg, hP⟩
    · refine .inl ⟨n, hg, ?_⟩
      by_cases c : 0 ≤ f_place p ∧ f_place p < n
      · refine jx_runL (o := jo_X10) (cs := cs_X10_work) (hf := jx_nh) jo_X10_ok hc_X10_work (jx_HK_nil rfl) (fun _ => false) 20 ?_
        simp only [jw, ju, jx_tg, Int.cast_ofNat_Int, Int.reduceAdd, Int.reduceToNat, Nat.reduceAdd, Nat.reduceMul, Nat.reduceBEq, Nat.reduceLeDiff, Int.reduceLE, Int.reduceLT, Int.reduceEq, Int.reduceNeg, Int.reduceSub, Int.reduceMul, not_false_eq_true, true_and, and_true, and_self, Bool.or_false, Bool.false_or, Bool.or_true, Bool.true_or, List.length_nil, List.length_cons, Nat.zero_le, or_true, true_or, Nat.le_refl, ↓reduceIte, Nat.reduceEqDiff, forall_const, false_and, and_false, false_implies, implies_true, not_true_eq_false, or_false, false_or, ne_eq, jd_X10_work, jf_X10, js_X10_place, js_X1_longs, cs_X10_work, jx_ck_c]
        exact ⟨c, hA c⟩
      · have rp : jx_r (f_place p) := by
          unfold f_place
          split <;> exact ⟨by omega, by omega⟩
        refine jx_s_msg (x := 3) (hf := jx_nh) (jx_HK_nil rfl) jx_xg3 (jx_t_laload (by decide +kernel) rp c) (by decide) ⟨by decide, by decide⟩ ?_
        exact hB c
    · exact .inr ⟨n, hg, hP⟩
  · exact hS.elim
