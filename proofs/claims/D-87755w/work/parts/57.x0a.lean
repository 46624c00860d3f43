/-! LoopLane: isIn, refuse, need -/
set_option maxRecDepth 100000
def js_X0_isIn : jx_Sp := fun as g M Po => match as with
  | [(1, _, v), (1, _, a), (1, _, b)] => (a ≤ v ∧ v ≤ b → Po (0, 0, 1) g M) ∧ (¬ (a ≤ v ∧ v ≤ b) → Po (0, 0, 0) g M)
  | _ => False
set_option maxHeartbeats 4000000 in
theorem jt_X0_isIn (l : Launch) : jx_Ct l yX0_isIn (ws_ yX0_isIn cX0_isIn 6 (some .boolean)) 0 0 0 js_X0_isIn := by
  refine jx_Ct_c (rc := 4) (by decide) rfl (fun D as g M Po hS => ?_)
  unfold js_X0_isIn at hS
  split at hS
  · rename_i n1 v n2 a n3 b
    refine ⟨Nat.le_of_ble_eq_true rfl, ?_⟩
    refine jx_runL (o := jo_X0) (cs := []) (hf := jx_nh) jo_X0_ok jx_cs0 (jx_HK_nil rfl) (fun _ => false) 30 ?_
    simp only [jw, ju, jx_tg, Int.cast_ofNat_Int, Int.reduceAdd, Int.reduceToNat, Nat.reduceAdd, Nat.reduceMul, Nat.reduceBEq, Nat.reduceLeDiff, Int.reduceLE, Int.reduceLT, Int.reduceEq, Int.reduceNeg, Int.reduceSub, Int.reduceMul, not_false_eq_true, true_and, and_true, and_self, Bool.or_false, Bool.false_or, Bool.or_true, Bool.true_or, List.length_nil, List.length_cons, Nat.zero_le, or_true, true_or, Nat.le_refl, ↓reduceIte, Nat.reduceEqDiff, forall_const, false_and, and_false, false_implies, implies_true, not_true_eq_false, or_false, false_or, ne_eq, jd_X0_isIn, jf_X0, jx_cmp_lt, jx_cmp_gt]
    have := @jx_cmp_r v a
    have := @jx_cmp_r v b
    refine ⟨by omega, fun c => hS.2 (by omega), fun c => ⟨by omega, fun c2 => hS.2 (by omega), fun c2 => hS.1 (by omega)⟩⟩
  · exact hS.elim
/-- a refusal is counted and kept -/
def xu_refuse (M : jx_M) (x c : Int) : jx_M := jx_u (jx_u M (x + 2) (-c) (M (x + 2) (-c) + 1)) x 2 (x + 49 - c)
def js_X0_refuse : jx_Sp := fun as g M Po => match as with
  | [(60, _, x), (0, _, c)] => (-11 ≤ c ∧ c ≤ -1) ∧ Po (0, 0, c) g (xu_refuse M x c)
  | _ => False
set_option maxHeartbeats 4000000 in
theorem jt_X0_refuse (l : Launch) : jx_Ct l yX0_refuse (ws_ yX0_refuse cX0_refuse 2 (some .int)) 0 0 0 js_X0_refuse := by
  refine jx_Ct_c (rc := 0) (by decide) rfl (fun D as g M Po hS => ?_)
  unfold js_X0_refuse at hS
  split at hS
  · rename_i n1 x n2 c
    obtain ⟨h1, hP⟩ := hS
    refine ⟨Nat.le_of_ble_eq_true rfl, ?_⟩
    refine jx_runL (o := jo_X0) (cs := []) (hf := jx_nh) jo_X0_ok jx_cs0 (jx_HK_nil rfl) (fun _ => false) 30 ?_
    simp only [jw, ju, jx_tg, Int.cast_ofNat_Int, Int.reduceAdd, Int.reduceToNat, Nat.reduceAdd, Nat.reduceMul, Nat.reduceBEq, Nat.reduceLeDiff, Int.reduceLE, Int.reduceLT, Int.reduceEq, Int.reduceNeg, Int.reduceSub, Int.reduceMul, not_false_eq_true, true_and, and_true, and_self, Bool.or_false, Bool.false_or, Bool.or_true, Bool.true_or, List.length_nil, List.length_cons, Nat.zero_le, or_true, true_or, Nat.le_refl, ↓reduceIte, Nat.reduceEqDiff, forall_const, false_and, and_false, false_implies, implies_true, not_true_eq_false, or_false, false_or, ne_eq, jd_X0_refuse, jf_X0]
    unfold xu_refuse at hP
    rw [show x + 49 - c = x + 1 + (48 + -c) by omega] at hP
    exact ⟨by omega, by omega, by omega, by omega, hP⟩
  · exact hS.elim
def js_X0_need : jx_Sp := fun as g M Po => match as with
  | [(60, _, x), (0, _, b), (0, _, c)] => (jx_r b ∧ -11 ≤ c ∧ c ≤ -1) ∧ (b ≠ 0 → Po (3, 0, 0) g M) ∧ (b = 0 → Po (4, 6, x + 49 - c) g M)
  | _ => False
set_option maxHeartbeats 4000000 in
theorem jt_X0_need (l : Launch) : jx_Ct l yX0_need (ws_ yX0_need cX0_need 3 none) 0 0 0 js_X0_need := by
  refine jx_Ct_c (rc := 3) (by decide) rfl (fun D as g M Po hS => ?_)
  unfold js_X0_need at hS
  split at hS
  · rename_i n1 x n2 b n3 c
    obtain ⟨⟨rb, h1⟩, hP1, hP2⟩ := hS
    refine ⟨Nat.le_of_ble_eq_true rfl, ?_⟩
    refine jx_runL (o := jo_X0) (cs := []) (hf := jx_nh) jo_X0_ok jx_cs0 (jx_HK_nil rfl) (fun p => p == 11) 30 ?_
    simp only [jw, ju, jx_tg, Int.cast_ofNat_Int, Int.reduceAdd, Int.reduceToNat, Nat.reduceAdd, Nat.reduceMul, Nat.reduceBEq, Nat.reduceLeDiff, Int.reduceLE, Int.reduceLT, Int.reduceEq, Int.reduceNeg, Int.reduceSub, Int.reduceMul, not_false_eq_true, true_and, and_true, and_self, Bool.or_false, Bool.false_or, Bool.or_true, Bool.true_or, List.length_nil, List.length_cons, Nat.zero_le, or_true, true_or, Nat.le_refl, ↓reduceIte, Nat.reduceEqDiff, forall_const, false_and, and_false, false_implies, implies_true, not_true_eq_false, or_false, false_or, ne_eq, jd_X0_need, jf_X0]
    refine ⟨rb, fun w => hP1 w, fun w => ⟨by omega, by omega, ?_⟩⟩
    refine jx_rng fun _ hs => ?_
    have hg := jx_okk (hs _ List.mem_cons_self) (by decide) (by decide)
    have hP := hP2 (by omega)
    rw [show x + 49 - c = x + 1 + (48 + -c) by omega] at hP
    refine jx_s_athrow (hf := jx_nh) (jx_HK_nil rfl) (by decide +kernel) (by decide) hg ?_
    exact hP
  · exact hS.elim
