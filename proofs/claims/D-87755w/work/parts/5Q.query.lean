/-! LoopLane: act, number, count, whole, trials, told, end, again, status, wrong, forge -/
set_option maxRecDepth 100000
theorem td0 : Int.tdiv 0 2 = 0 := rfl
theorem td2 : Int.tdiv 2 2 = 1 := rfl
theorem td4 : Int.tdiv 4 2 = 2 := rfl
theorem jx_u_same {M : jx_M} {a i v : Int} (h : M a i = v) : jx_u M a i v = M := by
  funext z k
  unfold jx_u
  split
  · rename_i q
    rw [q.1, q.2, h]
  · rfl
/-- a query leaves all as it is -/
theorem rK_s {x r : Int} {S : jx_M} {g : jx_S} {M : jx_M} {Po : jx_Po} {t : Nat} (hR : rR x S g M) (hK : rK x g M Po t r S) : Po (t, 0, r) g M := hK _ _ hR rFr_rf
def js_X0_trials : jx_Sp := fun as g M Po => match as with
  | [(60, _, x)] => ∃ S, (rR x S g M ∧ mW S) ∧ rK x g M Po 0 (f_trials S).1 (f_trials S).2
  | _ => False
set_option maxHeartbeats 4000000 in
theorem jt_X0_trials (l : Launch) : jx_Ct l yX0_trials (ws_ yX0_trials cX0_trials 1 (some .int)) 5 0 0 js_X0_trials := by
  refine jx_Ct_c (rc := 0) (by decide) rfl (fun D as g M Po hS => ?_)
  unfold js_X0_trials at hS
  split at hS
  · rename_i n1 x
    obtain ⟨S, ⟨hR, hW⟩, hK⟩ := hS
    refine ⟨Nat.le_of_ble_eq_true rfl, ?_⟩
    refine jx_runL (o := jo_X0) (cs := []) (hf := jx_nh) jo_X0_ok jx_cs0 (jx_HK_nil rfl) (fun _ => false) 20 ?_
    simp only [jw, ju, jx_tg, Int.cast_ofNat_Int, Int.reduceAdd, Int.reduceToNat, Nat.reduceAdd, Nat.reduceMul, Nat.reduceBEq, Nat.reduceLeDiff, Int.reduceLE, Int.reduceLT, Int.reduceEq, Int.reduceNeg, Int.reduceSub, Int.reduceMul, not_false_eq_true, true_and, and_true, and_self, Bool.or_false, Bool.false_or, Bool.or_true, Bool.true_or, List.length_nil, List.length_cons, Nat.zero_le, or_true, true_or, Nat.le_refl, ↓reduceIte, Nat.reduceEqDiff, forall_const, false_and, and_false, false_implies, implies_true, not_true_eq_false, or_false, false_or, ne_eq, jd_X0_trials, jf_X0, hR.2.2.2.2.2.1.1]
    exact rK_s hR hK
  · exact hS.elim
def js_X0_whole : jx_Sp := fun as g M Po => match as with
  | [(60, _, x)] => ∃ S, (rR x S g M ∧ mW S) ∧ rK x g M Po 0 (f_whole S).1 (f_whole S).2
  | _ => False
def cs_X0_whole : jx_Cs := [(780, 1, 0, 0, js_X0_isWhole)]
theorem hc_X0_whole {D : jx_D} {l : Launch} : jx_CsOK D l "LoopLane" 5 cs_X0_whole := List.forall_mem_cons.mpr ⟨jc_X0_260 (jt_X0_isWhole l) (fun as g M Po (h : js_X0_isWhole as g M Po) => by unfold js_X0_isWhole at h; split at h <;> first | exact h.elim | exact ⟨_, _, _, rfl, rfl⟩) (by decide), fun _ h => absurd h List.not_mem_nil⟩
set_option maxHeartbeats 4000000 in
theorem jt_X0_whole (l : Launch) : jx_Ct l yX0_whole (ws_ yX0_whole cX0_whole 1 (some .int)) 5 0 0 js_X0_whole := by
  refine jx_Ct_c (rc := 0) (by decide) rfl (fun D as g M Po hS => ?_)
  unfold js_X0_whole at hS
  split at hS
  · rename_i n1 x
    obtain ⟨S, ⟨hR, hW⟩, hK⟩ := hS
    have hB := hW.1
    have h9 := hB.1
    have x0 := hR.1.1
    have r5 := hR.2.1.1
    unfold f_whole at hK
    simp only [rK_ite, mno] at hK
    refine ⟨Nat.le_of_ble_eq_true rfl, ?_⟩
    refine jx_runL (o := jo_X0) (cs := cs_X0_whole) (hf := jx_nh) jo_X0_ok hc_X0_whole (jx_HK_nil rfl) (fun _ => false) 20 ?_
    simp only [jw, ju, jx_tg, Int.cast_ofNat_Int, Int.reduceAdd, Int.reduceToNat, Nat.reduceAdd, Nat.reduceMul, Nat.reduceBEq, Nat.reduceLeDiff, Int.reduceLE, Int.reduceLT, Int.reduceEq, Int.reduceNeg, Int.reduceSub, Int.reduceMul, not_false_eq_true, true_and, and_true, and_self, Bool.or_false, Bool.false_or, Bool.or_true, Bool.true_or, List.length_nil, List.length_cons, Nat.zero_le, or_true, true_or, Nat.le_refl, ↓reduceIte, Nat.reduceEqDiff, forall_const, false_and, and_false, false_implies, implies_true, not_true_eq_false, or_false, false_or, ne_eq, jd_X0_whole, jf_X0, js_X0_isWhole, cs_X0_whole, jx_ck_c]
    exact ⟨S, ⟨x0, hR.2.1, hB⟩, fun c => rK_s hR (hK.1 c), fun c => rK_s hR (hK.2 c)⟩
  · exact hS.elim
def js_X0_act : jx_Sp := fun as g M Po => match as with
  | [(60, _, x), (0, _, a), (0, _, w)] => ∃ S, (rR x S g M ∧ mW S ∧ jx_r a ∧ jx_r w) ∧ rK x g M Po 0 (f_act a w S).1 (f_act a w S).2
  | _ => False
def cs_X0_act : jx_Cs := [(1278, 2, 0, 0, js_X0_isAct), (1161, 2, 0, 0, js_X0_refuse), (105, 1, 0, 0, ja_sort), (132, 1, 0, 0, ja_slot)]
theorem hc_X0_act {D : jx_D} {l : Launch} : jx_CsOK D l "LoopLane" 5 cs_X0_act := List.forall_mem_cons.mpr ⟨jc_X0_426 (jt_X0_isAct l) (fun as g M Po (h : js_X0_isAct as g M Po) => by unfold js_X0_isAct at h; split at h <;> first | exact h.elim | exact ⟨_, _, _, rfl, rfl⟩) (by decide), List.forall_mem_cons.mpr ⟨jc_X0_387 (jt_X0_refuse l) (fun as g M Po (h : js_X0_refuse as g M Po) => by unfold js_X0_refuse at h; split at h <;> first | exact h.elim | exact ⟨_, _, _, rfl, rfl⟩) (by decide), List.forall_mem_cons.mpr ⟨jz_sort (by decide), List.forall_mem_cons.mpr ⟨jz_slot (by decide), fun _ h => absurd h List.not_mem_nil⟩⟩⟩⟩
set_option maxHeartbeats 4000000 in
theorem jt_X0_act (l : Launch) : jx_Ct l yX0_act (ws_ yX0_act cX0_act 4 (some .int)) 5 0 0 js_X0_act := by
  refine jx_Ct_c (rc := 0) (by decide) rfl (fun D as g M Po hS => ?_)
  unfold js_X0_act at hS
  split at hS
  · rename_i n1 x n2 a n3 w
    obtain ⟨S, ⟨hR, hW, ra, r2⟩, hK⟩ := hS
    have hB := hW.1
    have h9 := hB.1
    have x0 := hR.1.1
    have r5 := hR.2.1.1
    unfold f_act mm_isa at hK
    simp only [rK_ite, mno] at hK
    refine ⟨Nat.le_of_ble_eq_true rfl, ?_⟩
    have sw : (0 ≤ a ∧ a < S 0 9) → jx_V D l (yX0_act.cls, cX0_act, 4, 0, [], 5, 0, 0, yX0_act.name) Po 22 [(60, n1, x), (0, n2, a), (0, n3, w), (80, 0, M (x + 13) a)] [] (0, 0) g (M) := by
      intro c
      have hA := hR.2.1.2.2.1 a c.1 c.2
      have ki := rA_k hA x0 c.1
      have hn := mm_nop_3 (S 1 a)
      have hK1 := hK.1 c
      by_cases cw : 0 ≤ w ∧ w ≤ 10
      · have hK2 := hK1.1 cw
        refine jx_runL (o := jo_X0) (cs := cs_X0_act) (hf := jx_nh) jo_X0_ok hc_X0_act (jx_HK_nil rfl) (fun p => p == 23) 20 ?_
        simp only [jw, ju, jx_tg, Int.cast_ofNat_Int, Int.reduceAdd, Int.reduceToNat, Nat.reduceAdd, Nat.reduceMul, Nat.reduceBEq, Nat.reduceLeDiff, Int.reduceLE, Int.reduceLT, Int.reduceEq, Int.reduceNeg, Int.reduceSub, Int.reduceMul, not_false_eq_true, true_and, and_true, and_self, Bool.or_false, Bool.false_or, Bool.or_true, Bool.true_or, List.length_nil, List.length_cons, Nat.zero_le, or_true, true_or, Nat.le_refl, ↓reduceIte, Nat.reduceEqDiff, forall_const, false_and, and_false, false_implies, implies_true, not_true_eq_false, or_false, false_or, ne_eq, jd_X0_act, jf_X0, ja_slot, ja_sort, js_X0_isAct, js_X0_refuse, cs_X0_act, jx_ck_c]
        have ops := hB.2.2.2.1 a
        rcases (show w = 0 ∨ w = 1 ∨ w = 2 ∨ w = 3 ∨ w = 4 ∨ w = 5 ∨ w = 6 ∨ w = 7 ∨ w = 8 ∨ w = 9 ∨ w = 10 by omega) with rfl | rfl | rfl | rfl | rfl | rfl | rfl | rfl | rfl | rfl | rfl
        · refine jx_s_tsI (dflt := 138) (lo := 0) (hi := 10) (offs := #[57, 62, 67, 72, 77, 82, 109, 82, 109, 82, 109]) (len := 57) (off := 57) (tgt := 80) (by decide +kernel) r2 (by decide) (by decide) rfl rfl ?_
          refine jx_runL (o := jo_X0) (cs := cs_X0_act) (hf := jx_nh) jo_X0_ok hc_X0_act (jx_HK_nil rfl) (fun _ => false) 20 ?_
          simp only [jw, ju, jx_tg, Int.cast_ofNat_Int, Int.reduceAdd, Int.reduceToNat, Nat.reduceAdd, Nat.reduceMul, Nat.reduceBEq, Nat.reduceLeDiff, Int.reduceLE, Int.reduceLT, Int.reduceEq, Int.reduceNeg, Int.reduceSub, Int.reduceMul, not_false_eq_true, true_and, and_true, and_self, Bool.or_false, Bool.false_or, Bool.or_true, Bool.true_or, List.length_nil, List.length_cons, Nat.zero_le, or_true, true_or, Nat.le_refl, ↓reduceIte, Nat.reduceEqDiff, forall_const, false_and, and_false, false_implies, implies_true, not_true_eq_false, or_false, false_or, ne_eq, jd_X0_act, jf_X0, rA_sort hA, ja_slot, ja_sort, js_X0_isAct, js_X0_refuse, cs_X0_act, jx_ck_c]
          exact ⟨ki, rK_s hR (hK2.1 (by decide))⟩
        · refine jx_s_tsI (dflt := 138) (lo := 0) (hi := 10) (offs := #[57, 62, 67, 72, 77, 82, 109, 82, 109, 82, 109]) (len := 57) (off := 62) (tgt := 85) (by decide +kernel) r2 (by decide) (by decide) rfl rfl ?_
          refine jx_runL (o := jo_X0) (cs := cs_X0_act) (hf := jx_nh) jo_X0_ok hc_X0_act (jx_HK_nil rfl) (fun _ => false) 20 ?_
          simp only [jw, ju, jx_tg, Int.cast_ofNat_Int, Int.reduceAdd, Int.reduceToNat, Nat.reduceAdd, Nat.reduceMul, Nat.reduceBEq, Nat.reduceLeDiff, Int.reduceLE, Int.reduceLT, Int.reduceEq, Int.reduceNeg, Int.reduceSub, Int.reduceMul, not_false_eq_true, true_and, and_true, and_self, Bool.or_false, Bool.false_or, Bool.or_true, Bool.true_or, List.length_nil, List.length_cons, Nat.zero_le, or_true, true_or, Nat.le_refl, ↓reduceIte, Nat.reduceEqDiff, forall_const, false_and, and_false, false_implies, implies_true, not_true_eq_false, or_false, false_or, ne_eq, jd_X0_act, jf_X0, rA_lag hA, ja_slot, ja_sort, js_X0_isAct, js_X0_refuse, cs_X0_act, jx_ck_c]
          exact rK_s hR (hK2.1 (by decide))
        · refine jx_s_tsI (dflt := 138) (lo := 0) (hi := 10) (offs := #[57, 62, 67, 72, 77, 82, 109, 82, 109, 82, 109]) (len := 57) (off := 67) (tgt := 90) (by decide +kernel) r2 (by decide) (by decide) rfl rfl ?_
          refine jx_runL (o := jo_X0) (cs := cs_X0_act) (hf := jx_nh) jo_X0_ok hc_X0_act (jx_HK_nil rfl) (fun _ => false) 20 ?_
          simp only [jw, ju, jx_tg, Int.cast_ofNat_Int, Int.reduceAdd, Int.reduceToNat, Nat.reduceAdd, Nat.reduceMul, Nat.reduceBEq, Nat.reduceLeDiff, Int.reduceLE, Int.reduceLT, Int.reduceEq, Int.reduceNeg, Int.reduceSub, Int.reduceMul, not_false_eq_true, true_and, and_true, and_self, Bool.or_false, Bool.false_or, Bool.or_true, Bool.true_or, List.length_nil, List.length_cons, Nat.zero_le, or_true, true_or, Nat.le_refl, ↓reduceIte, Nat.reduceEqDiff, forall_const, false_and, and_false, false_implies, implies_true, not_true_eq_false, or_false, false_or, ne_eq, jd_X0_act, jf_X0, rA_unit hA, ja_slot, ja_sort, js_X0_isAct, js_X0_refuse, cs_X0_act, jx_ck_c]
          exact rK_s hR (hK2.1 (by decide))
        · refine jx_s_tsI (dflt := 138) (lo := 0) (hi := 10) (offs := #[57, 62, 67, 72, 77, 82, 109, 82, 109, 82, 109]) (len := 57) (off := 72) (tgt := 95) (by decide +kernel) r2 (by decide) (by decide) rfl rfl ?_
          refine jx_runL (o := jo_X0) (cs := cs_X0_act) (hf := jx_nh) jo_X0_ok hc_X0_act (jx_HK_nil rfl) (fun _ => false) 20 ?_
          simp only [jw, ju, jx_tg, Int.cast_ofNat_Int, Int.reduceAdd, Int.reduceToNat, Nat.reduceAdd, Nat.reduceMul, Nat.reduceBEq, Nat.reduceLeDiff, Int.reduceLE, Int.reduceLT, Int.reduceEq, Int.reduceNeg, Int.reduceSub, Int.reduceMul, not_false_eq_true, true_and, and_true, and_self, Bool.or_false, Bool.false_or, Bool.or_true, Bool.true_or, List.length_nil, List.length_cons, Nat.zero_le, or_true, true_or, Nat.le_refl, ↓reduceIte, Nat.reduceEqDiff, forall_const, false_and, and_false, false_implies, implies_true, not_true_eq_false, or_false, false_or, ne_eq, jd_X0_act, jf_X0, rA_pat hA, ja_slot, ja_sort, js_X0_isAct, js_X0_refuse, cs_X0_act, jx_ck_c]
          exact rK_s hR (hK2.1 (by decide))
        · refine jx_s_tsI (dflt := 138) (lo := 0) (hi := 10) (offs := #[57, 62, 67, 72, 77, 82, 109, 82, 109, 82, 109]) (len := 57) (off := 77) (tgt := 100) (by decide +kernel) r2 (by decide) (by decide) rfl rfl ?_
          refine jx_runL (o := jo_X0) (cs := cs_X0_act) (hf := jx_nh) jo_X0_ok hc_X0_act (jx_HK_nil rfl) (fun _ => false) 20 ?_
          simp only [jw, ju, jx_tg, Int.cast_ofNat_Int, Int.reduceAdd, Int.reduceToNat, Nat.reduceAdd, Nat.reduceMul, Nat.reduceBEq, Nat.reduceLeDiff, Int.reduceLE, Int.reduceLT, Int.reduceEq, Int.reduceNeg, Int.reduceSub, Int.reduceMul, not_false_eq_true, true_and, and_true, and_self, Bool.or_false, Bool.false_or, Bool.or_true, Bool.true_or, List.length_nil, List.length_cons, Nat.zero_le, or_true, true_or, Nat.le_refl, ↓reduceIte, Nat.reduceEqDiff, forall_const, false_and, and_false, false_implies, implies_true, not_true_eq_false, or_false, false_or, ne_eq, jd_X0_act, jf_X0, rA_slot hA hB c.1 c.2, ja_slot, ja_sort, js_X0_isAct, js_X0_refuse, cs_X0_act, jx_ck_c]
          exact ⟨ki, rK_s hR (hK2.1 (by decide))⟩
        · refine jx_s_tsI (dflt := 138) (lo := 0) (hi := 10) (offs := #[57, 62, 67, 72, 77, 82, 109, 82, 109, 82, 109]) (len := 57) (off := 82) (tgt := 105) (by decide +kernel) r2 (by decide) (by decide) rfl rfl ?_
          have hK3 : rK x g M Po 0 (S 6 (3 * a + 0)) S := (hK2.2 (by decide)).1 (by decide)
          by_cases cn : 0 < mm_nop (S 1 a)
          · have ho := rA_of (i := 0) hA (by decide) cn
            refine jx_runL (o := jo_X0) (cs := cs_X0_act) (hf := jx_nh) jo_X0_ok hc_X0_act (jx_HK_nil rfl) (fun _ => false) 30 ?_
            simp only [jw, ju, jx_tg, Int.cast_ofNat_Int, Int.reduceAdd, Int.reduceToNat, Nat.reduceAdd, Nat.reduceMul, Nat.reduceBEq, Nat.reduceLeDiff, Int.reduceLE, Int.reduceLT, Int.reduceEq, Int.reduceNeg, Int.reduceSub, Int.reduceMul, not_false_eq_true, true_and, and_true, and_self, Bool.or_false, Bool.false_or, Bool.or_true, Bool.true_or, List.length_nil, List.length_cons, Nat.zero_le, or_true, true_or, Nat.le_refl, ↓reduceIte, Nat.reduceEqDiff, forall_const, false_and, and_false, false_implies, implies_true, not_true_eq_false, or_false, false_or, ne_eq, jd_X0_act, jf_X0, rA_many hA, ho, td0, td2, td4, ja_slot, ja_sort, js_X0_isAct, js_X0_refuse, cs_X0_act, jx_ck_c]
            exact ⟨by omega, fun z => by omega, fun z => rK_s hR hK3⟩
          · have ho := (ops 0 c.1 c.2 (by decide) (by decide)).2 (by omega)
            refine jx_runL (o := jo_X0) (cs := cs_X0_act) (hf := jx_nh) jo_X0_ok hc_X0_act (jx_HK_nil rfl) (fun p => p == 117) 30 ?_
            simp only [jw, ju, jx_tg, Int.cast_ofNat_Int, Int.reduceAdd, Int.reduceToNat, Nat.reduceAdd, Nat.reduceMul, Nat.reduceBEq, Nat.reduceLeDiff, Int.reduceLE, Int.reduceLT, Int.reduceEq, Int.reduceNeg, Int.reduceSub, Int.reduceMul, not_false_eq_true, true_and, and_true, and_self, Bool.or_false, Bool.false_or, Bool.or_true, Bool.true_or, List.length_nil, List.length_cons, Nat.zero_le, or_true, true_or, Nat.le_refl, ↓reduceIte, Nat.reduceEqDiff, forall_const, false_and, and_false, false_implies, implies_true, not_true_eq_false, or_false, false_or, ne_eq, jd_X0_act, jf_X0, rA_many hA, td0, td2, td4, ja_slot, ja_sort, js_X0_isAct, js_X0_refuse, cs_X0_act, jx_ck_c]
            refine ⟨by omega, fun z => ?_, fun z => by omega⟩
            rw [ho.1] at hK3
            exact rK_s hR hK3
        · refine jx_s_tsI (dflt := 138) (lo := 0) (hi := 10) (offs := #[57, 62, 67, 72, 77, 82, 109, 82, 109, 82, 109]) (len := 57) (off := 109) (tgt := 132) (by decide +kernel) r2 (by decide) (by decide) rfl rfl ?_
          have hK3 : rK x g M Po 0 (S 7 (3 * a + 0)) S := (hK2.2 (by decide)).2 (by decide)
          by_cases cn : 0 < mm_nop (S 1 a)
          · have ho := rA_back (i := 0) hA (by decide) cn
            refine jx_runL (o := jo_X0) (cs := cs_X0_act) (hf := jx_nh) jo_X0_ok hc_X0_act (jx_HK_nil rfl) (fun _ => false) 30 ?_
            simp only [jw, ju, jx_tg, Int.cast_ofNat_Int, Int.reduceAdd, Int.reduceToNat, Nat.reduceAdd, Nat.reduceMul, Nat.reduceBEq, Nat.reduceLeDiff, Int.reduceLE, Int.reduceLT, Int.reduceEq, Int.reduceNeg, Int.reduceSub, Int.reduceMul, not_false_eq_true, true_and, and_true, and_self, Bool.or_false, Bool.false_or, Bool.or_true, Bool.true_or, List.length_nil, List.length_cons, Nat.zero_le, or_true, true_or, Nat.le_refl, ↓reduceIte, Nat.reduceEqDiff, forall_const, false_and, and_false, false_implies, implies_true, not_true_eq_false, or_false, false_or, ne_eq, jd_X0_act, jf_X0, rA_many hA, ho, td0, td2, td4, ja_slot, ja_sort, js_X0_isAct, js_X0_refuse, cs_X0_act, jx_ck_c]
            exact ⟨by omega, fun z => by omega, fun z => rK_s hR hK3⟩
          · have ho := (ops 0 c.1 c.2 (by decide) (by decide)).2 (by omega)
            refine jx_runL (o := jo_X0) (cs := cs_X0_act) (hf := jx_nh) jo_X0_ok hc_X0_act (jx_HK_nil rfl) (fun p => p == 145) 30 ?_
            simp only [jw, ju, jx_tg, Int.cast_ofNat_Int, Int.reduceAdd, Int.reduceToNat, Nat.reduceAdd, Nat.reduceMul, Nat.reduceBEq, Nat.reduceLeDiff, Int.reduceLE, Int.reduceLT, Int.reduceEq, Int.reduceNeg, Int.reduceSub, Int.reduceMul, not_false_eq_true, true_and, and_true, and_self, Bool.or_false, Bool.false_or, Bool.or_true, Bool.true_or, List.length_nil, List.length_cons, Nat.zero_le, or_true, true_or, Nat.le_refl, ↓reduceIte, Nat.reduceEqDiff, forall_const, false_and, and_false, false_implies, implies_true, not_true_eq_false, or_false, false_or, ne_eq, jd_X0_act, jf_X0, rA_many hA, td0, td2, td4, ja_slot, ja_sort, js_X0_isAct, js_X0_refuse, cs_X0_act, jx_ck_c]
            refine ⟨by omega, fun z => ?_, fun z => by omega⟩
            rw [ho.2] at hK3
            exact rK_s hR hK3
        · refine jx_s_tsI (dflt := 138) (lo := 0) (hi := 10) (offs := #[57, 62, 67, 72, 77, 82, 109, 82, 109, 82, 109]) (len := 57) (off := 82) (tgt := 105) (by decide +kernel) r2 (by decide) (by decide) rfl rfl ?_
          have hK3 : rK x g M Po 0 (S 6 (3 * a + 1)) S := (hK2.2 (by decide)).1 (by decide)
          by_cases cn : 1 < mm_nop (S 1 a)
          · have ho := rA_of (i := 1) hA (by decide) cn
            refine jx_runL (o := jo_X0) (cs := cs_X0_act) (hf := jx_nh) jo_X0_ok hc_X0_act (jx_HK_nil rfl) (fun _ => false) 30 ?_
            simp only [jw, ju, jx_tg, Int.cast_ofNat_Int, Int.reduceAdd, Int.reduceToNat, Nat.reduceAdd, Nat.reduceMul, Nat.reduceBEq, Nat.reduceLeDiff, Int.reduceLE, Int.reduceLT, Int.reduceEq, Int.reduceNeg, Int.reduceSub, Int.reduceMul, not_false_eq_true, true_and, and_true, and_self, Bool.or_false, Bool.false_or, Bool.or_true, Bool.true_or, List.length_nil, List.length_cons, Nat.zero_le, or_true, true_or, Nat.le_refl, ↓reduceIte, Nat.reduceEqDiff, forall_const, false_and, and_false, false_implies, implies_true, not_true_eq_false, or_false, false_or, ne_eq, jd_X0_act, jf_X0, rA_many hA, ho, td0, td2, td4, ja_slot, ja_sort, js_X0_isAct, js_X0_refuse, cs_X0_act, jx_ck_c]
            exact ⟨by omega, fun z => by omega, fun z => rK_s hR hK3⟩
          · have ho := (ops 1 c.1 c.2 (by decide) (by decide)).2 (by omega)
            refine jx_runL (o := jo_X0) (cs := cs_X0_act) (hf := jx_nh) jo_X0_ok hc_X0_act (jx_HK_nil rfl) (fun p => p == 117) 30 ?_
            simp only [jw, ju, jx_tg, Int.cast_ofNat_Int, Int.reduceAdd, Int.reduceToNat, Nat.reduceAdd, Nat.reduceMul, Nat.reduceBEq, Nat.reduceLeDiff, Int.reduceLE, Int.reduceLT, Int.reduceEq, Int.reduceNeg, Int.reduceSub, Int.reduceMul, not_false_eq_true, true_and, and_true, and_self, Bool.or_false, Bool.false_or, Bool.or_true, Bool.true_or, List.length_nil, List.length_cons, Nat.zero_le, or_true, true_or, Nat.le_refl, ↓reduceIte, Nat.reduceEqDiff, forall_const, false_and, and_false, false_implies, implies_true, not_true_eq_false, or_false, false_or, ne_eq, jd_X0_act, jf_X0, rA_many hA, td0, td2, td4, ja_slot, ja_sort, js_X0_isAct, js_X0_refuse, cs_X0_act, jx_ck_c]
            refine ⟨by omega, fun z => ?_, fun z => by omega⟩
            rw [ho.1] at hK3
            exact rK_s hR hK3
        · refine jx_s_tsI (dflt := 138) (lo := 0) (hi := 10) (offs := #[57, 62, 67, 72, 77, 82, 109, 82, 109, 82, 109]) (len := 57) (off := 109) (tgt := 132) (by decide +kernel) r2 (by decide) (by decide) rfl rfl ?_
          have hK3 : rK x g M Po 0 (S 7 (3 * a + 1)) S := (hK2.2 (by decide)).2 (by decide)
          by_cases cn : 1 < mm_nop (S 1 a)
          · have ho := rA_back (i := 1) hA (by decide) cn
            refine jx_runL (o := jo_X0) (cs := cs_X0_act) (hf := jx_nh) jo_X0_ok hc_X0_act (jx_HK_nil rfl) (fun _ => false) 30 ?_
            simp only [jw, ju, jx_tg, Int.cast_ofNat_Int, Int.reduceAdd, Int.reduceToNat, Nat.reduceAdd, Nat.reduceMul, Nat.reduceBEq, Nat.reduceLeDiff, Int.reduceLE, Int.reduceLT, Int.reduceEq, Int.reduceNeg, Int.reduceSub, Int.reduceMul, not_false_eq_true, true_and, and_true, and_self, Bool.or_false, Bool.false_or, Bool.or_true, Bool.true_or, List.length_nil, List.length_cons, Nat.zero_le, or_true, true_or, Nat.le_refl, ↓reduceIte, Nat.reduceEqDiff, forall_const, false_and, and_false, false_implies, implies_true, not_true_eq_false, or_false, false_or, ne_eq, jd_X0_act, jf_X0, rA_many hA, ho, td0, td2, td4, ja_slot, ja_sort, js_X0_isAct, js_X0_refuse, cs_X0_act, jx_ck_c]
            exact ⟨by omega, fun z => by omega, fun z => rK_s hR hK3⟩
          · have ho := (ops 1 c.1 c.2 (by decide) (by decide)).2 (by omega)
            refine jx_runL (o := jo_X0) (cs := cs_X0_act) (hf := jx_nh) jo_X0_ok hc_X0_act (jx_HK_nil rfl) (fun p => p == 145) 30 ?_
            simp only [jw, ju, jx_tg, Int.cast_ofNat_Int, Int.reduceAdd, Int.reduceToNat, Nat.reduceAdd, Nat.reduceMul, Nat.reduceBEq, Nat.reduceLeDiff, Int.reduceLE, Int.reduceLT, Int.reduceEq, Int.reduceNeg, Int.reduceSub, Int.reduceMul, not_false_eq_true, true_and, and_true, and_self, Bool.or_false, Bool.false_or, Bool.or_true, Bool.true_or, List.length_nil, List.length_cons, Nat.zero_le, or_true, true_or, Nat.le_refl, ↓reduceIte, Nat.reduceEqDiff, forall_const, false_and, and_false, false_implies, implies_true, not_true_eq_false, or_false, false_or, ne_eq, jd_X0_act, jf_X0, rA_many hA, td0, td2, td4, ja_slot, ja_sort, js_X0_isAct, js_X0_refuse, cs_X0_act, jx_ck_c]
            refine ⟨by omega, fun z => ?_, fun z => by omega⟩
            rw [ho.2] at hK3
            exact rK_s hR hK3
        · refine jx_s_tsI (dflt := 138) (lo := 0) (hi := 10) (offs := #[57, 62, 67, 72, 77, 82, 109, 82, 109, 82, 109]) (len := 57) (off := 82) (tgt := 105) (by decide +kernel) r2 (by decide) (by decide) rfl rfl ?_
          have hK3 : rK x g M Po 0 (S 6 (3 * a + 2)) S := (hK2.2 (by decide)).1 (by decide)
          by_cases cn : 2 < mm_nop (S 1 a)
          · have ho := rA_of (i := 2) hA (by decide) cn
            refine jx_runL (o := jo_X0) (cs := cs_X0_act) (hf := jx_nh) jo_X0_ok hc_X0_act (jx_HK_nil rfl) (fun _ => false) 30 ?_
            simp only [jw, ju, jx_tg, Int.cast_ofNat_Int, Int.reduceAdd, Int.reduceToNat, Nat.reduceAdd, Nat.reduceMul, Nat.reduceBEq, Nat.reduceLeDiff, Int.reduceLE, Int.reduceLT, Int.reduceEq, Int.reduceNeg, Int.reduceSub, Int.reduceMul, not_false_eq_true, true_and, and_true, and_self, Bool.or_false, Bool.false_or, Bool.or_true, Bool.true_or, List.length_nil, List.length_cons, Nat.zero_le, or_true, true_or, Nat.le_refl, ↓reduceIte, Nat.reduceEqDiff, forall_const, false_and, and_false, false_implies, implies_true, not_true_eq_false, or_false, false_or, ne_eq, jd_X0_act, jf_X0, rA_many hA, ho, td0, td2, td4, ja_slot, ja_sort, js_X0_isAct, js_X0_refuse, cs_X0_act, jx_ck_c]
            exact ⟨by omega, fun z => by omega, fun z => rK_s hR hK3⟩
          · have ho := (ops 2 c.1 c.2 (by decide) (by decide)).2 (by omega)
            refine jx_runL (o := jo_X0) (cs := cs_X0_act) (hf := jx_nh) jo_X0_ok hc_X0_act (jx_HK_nil rfl) (fun p => p == 117) 30 ?_
            simp only [jw, ju, jx_tg, Int.cast_ofNat_Int, Int.reduceAdd, Int.reduceToNat, Nat.reduceAdd, Nat.reduceMul, Nat.reduceBEq, Nat.reduceLeDiff, Int.reduceLE, Int.reduceLT, Int.reduceEq, Int.reduceNeg, Int.reduceSub, Int.reduceMul, not_false_eq_true, true_and, and_true, and_self, Bool.or_false, Bool.false_or, Bool.or_true, Bool.true_or, List.length_nil, List.length_cons, Nat.zero_le, or_true, true_or, Nat.le_refl, ↓reduceIte, Nat.reduceEqDiff, forall_const, false_and, and_false, false_implies, implies_true, not_true_eq_false, or_false, false_or, ne_eq, jd_X0_act, jf_X0, rA_many hA, td0, td2, td4, ja_slot, ja_sort, js_X0_isAct, js_X0_refuse, cs_X0_act, jx_ck_c]
            refine ⟨by omega, fun z => ?_, fun z => by omega⟩
            rw [ho.1] at hK3
            exact rK_s hR hK3
        · refine jx_s_tsI (dflt := 138) (lo := 0) (hi := 10) (offs := #[57, 62, 67, 72, 77, 82, 109, 82, 109, 82, 109]) (len := 57) (off := 109) (tgt := 132) (by decide +kernel) r2 (by decide) (by decide) rfl rfl ?_
          have hK3 : rK x g M Po 0 (S 7 (3 * a + 2)) S := (hK2.2 (by decide)).2 (by decide)
          by_cases cn : 2 < mm_nop (S 1 a)
          · have ho := rA_back (i := 2) hA (by decide) cn
            refine jx_runL (o := jo_X0) (cs := cs_X0_act) (hf := jx_nh) jo_X0_ok hc_X0_act (jx_HK_nil rfl) (fun _ => false) 30 ?_
            simp only [jw, ju, jx_tg, Int.cast_ofNat_Int, Int.reduceAdd, Int.reduceToNat, Nat.reduceAdd, Nat.reduceMul, Nat.reduceBEq, Nat.reduceLeDiff, Int.reduceLE, Int.reduceLT, Int.reduceEq, Int.reduceNeg, Int.reduceSub, Int.reduceMul, not_false_eq_true, true_and, and_true, and_self, Bool.or_false, Bool.false_or, Bool.or_true, Bool.true_or, List.length_nil, List.length_cons, Nat.zero_le, or_true, true_or, Nat.le_refl, ↓reduceIte, Nat.reduceEqDiff, forall_const, false_and, and_false, false_implies, implies_true, not_true_eq_false, or_false, false_or, ne_eq, jd_X0_act, jf_X0, rA_many hA, ho, td0, td2, td4, ja_slot, ja_sort, js_X0_isAct, js_X0_refuse, cs_X0_act, jx_ck_c]
            exact ⟨by omega, fun z => by omega, fun z => rK_s hR hK3⟩
          · have ho := (ops 2 c.1 c.2 (by decide) (by decide)).2 (by omega)
            refine jx_runL (o := jo_X0) (cs := cs_X0_act) (hf := jx_nh) jo_X0_ok hc_X0_act (jx_HK_nil rfl) (fun p => p == 145) 30 ?_
            simp only [jw, ju, jx_tg, Int.cast_ofNat_Int, Int.reduceAdd, Int.reduceToNat, Nat.reduceAdd, Nat.reduceMul, Nat.reduceBEq, Nat.reduceLeDiff, Int.reduceLE, Int.reduceLT, Int.reduceEq, Int.reduceNeg, Int.reduceSub, Int.reduceMul, not_false_eq_true, true_and, and_true, and_self, Bool.or_false, Bool.false_or, Bool.or_true, Bool.true_or, List.length_nil, List.length_cons, Nat.zero_le, or_true, true_or, Nat.le_refl, ↓reduceIte, Nat.reduceEqDiff, forall_const, false_and, and_false, false_implies, implies_true, not_true_eq_false, or_false, false_or, ne_eq, jd_X0_act, jf_X0, rA_many hA, td0, td2, td4, ja_slot, ja_sort, js_X0_isAct, js_X0_refuse, cs_X0_act, jx_ck_c]
            refine ⟨by omega, fun z => ?_, fun z => by omega⟩
            rw [ho.2] at hK3
            exact rK_s hR hK3
      · refine jx_runL (o := jo_X0) (cs := cs_X0_act) (hf := jx_nh) jo_X0_ok hc_X0_act (jx_HK_nil rfl) (fun p => p == 23) 20 ?_
        simp only [jw, ju, jx_tg, Int.cast_ofNat_Int, Int.reduceAdd, Int.reduceToNat, Nat.reduceAdd, Nat.reduceMul, Nat.reduceBEq, Nat.reduceLeDiff, Int.reduceLE, Int.reduceLT, Int.reduceEq, Int.reduceNeg, Int.reduceSub, Int.reduceMul, not_false_eq_true, true_and, and_true, and_self, Bool.or_false, Bool.false_or, Bool.or_true, Bool.true_or, List.length_nil, List.length_cons, Nat.zero_le, or_true, true_or, Nat.le_refl, ↓reduceIte, Nat.reduceEqDiff, forall_const, false_and, and_false, false_implies, implies_true, not_true_eq_false, or_false, false_or, ne_eq, jd_X0_act, jf_X0, ja_slot, ja_sort, js_X0_isAct, js_X0_refuse, cs_X0_act, jx_ck_c]
        refine jx_s_tsO (dflt := 138) (lo := 0) (hi := 10) (offs := #[57, 62, 67, 72, 77, 82, 109, 82, 109, 82, 109]) (len := 57) (tgt := 161) (by decide +kernel) r2 (by omega) rfl ?_
        refine jx_runL (o := jo_X0) (cs := cs_X0_act) (hf := jx_nh) jo_X0_ok hc_X0_act (jx_HK_nil rfl) (fun _ => false) 20 ?_
        simp only [jw, ju, jx_tg, Int.cast_ofNat_Int, Int.reduceAdd, Int.reduceToNat, Nat.reduceAdd, Nat.reduceMul, Nat.reduceBEq, Nat.reduceLeDiff, Int.reduceLE, Int.reduceLT, Int.reduceEq, Int.reduceNeg, Int.reduceSub, Int.reduceMul, not_false_eq_true, true_and, and_true, and_self, Bool.or_false, Bool.false_or, Bool.or_true, Bool.true_or, List.length_nil, List.length_cons, Nat.zero_le, or_true, true_or, Nat.le_refl, ↓reduceIte, Nat.reduceEqDiff, forall_const, false_and, and_false, false_implies, implies_true, not_true_eq_false, or_false, false_or, ne_eq, jd_X0_act, jf_X0, ja_slot, ja_sort, js_X0_isAct, js_X0_refuse, cs_X0_act, jx_ck_c]
        exact rK_no h9.2 (by decide) hR rFr_rf (hK1.2 cw)
    refine jx_runL (o := jo_X0) (cs := cs_X0_act) (hf := jx_nh) jo_X0_ok hc_X0_act (jx_HK_nil rfl) (fun p => p == 22) 20 ?_
    simp only [jw, ju, jx_tg, Int.cast_ofNat_Int, Int.reduceAdd, Int.reduceToNat, Nat.reduceAdd, Nat.reduceMul, Nat.reduceBEq, Nat.reduceLeDiff, Int.reduceLE, Int.reduceLT, Int.reduceEq, Int.reduceNeg, Int.reduceSub, Int.reduceMul, not_false_eq_true, true_and, and_true, and_self, Bool.or_false, Bool.false_or, Bool.or_true, Bool.true_or, List.length_nil, List.length_cons, Nat.zero_le, or_true, true_or, Nat.le_refl, ↓reduceIte, Nat.reduceEqDiff, forall_const, false_and, and_false, false_implies, implies_true, not_true_eq_false, or_false, false_or, ne_eq, jd_X0_act, jf_X0, r5, ja_slot, ja_sort, js_X0_isAct, js_X0_refuse, cs_X0_act, jx_ck_c]
    exact ⟨⟨ra, by omega⟩, fun c => ⟨by omega, rA_k3 (hR.2.1.2.2.1 a c.1 c.2) x0 c.1, sw c⟩, fun c => rK_no h9.2 (by decide) hR rFr_rf (hK.2 c)⟩
  · exact hS.elim
def js_X0_status : jx_Sp := fun as g M Po => match as with
  | [(60, _, x), (0, _, b)] => ∃ S, (rR x S g M ∧ mW S ∧ jx_r b) ∧ rK x g M Po 0 (f_status b S).1 (f_status b S).2
  | _ => False
def cs_X0_status : jx_Cs := [(1135, 3, 0, 0, js_X0_isIn), (1161, 2, 0, 0, js_X0_refuse)]
theorem hc_X0_status {D : jx_D} {l : Launch} : jx_CsOK D l "LoopLane" 5 cs_X0_status := List.forall_mem_cons.mpr ⟨jc_X0_378 (jt_X0_isIn l) (fun as g M Po (h : js_X0_isIn as g M Po) => by unfold js_X0_isIn at h; split at h <;> first | exact h.elim | exact rfl) (by decide), List.forall_mem_cons.mpr ⟨jc_X0_387 (jt_X0_refuse l) (fun as g M Po (h : js_X0_refuse as g M Po) => by unfold js_X0_refuse at h; split at h <;> first | exact h.elim | exact ⟨_, _, _, rfl, rfl⟩) (by decide), fun _ h => absurd h List.not_mem_nil⟩⟩
set_option maxHeartbeats 4000000 in
theorem jt_X0_status (l : Launch) : jx_Ct l yX0_status (ws_ yX0_status cX0_status 2 (some .int)) 5 0 0 js_X0_status := by
  refine jx_Ct_c (rc := 0) (by decide) rfl (fun D as g M Po hS => ?_)
  unfold js_X0_status at hS
  split at hS
  · rename_i n1 x n2 b
    obtain ⟨S, ⟨hR, hW, rb⟩, hK⟩ := hS
    have hB := hW.1
    have h9 := hB.1
    have x0 := hR.1.1
    have r5 := hR.2.1.1
    unfold f_status at hK
    simp only [rK_ite, mno] at hK
    refine ⟨Nat.le_of_ble_eq_true rfl, ?_⟩
    refine jx_runL (o := jo_X0) (cs := cs_X0_status) (hf := jx_nh) jo_X0_ok hc_X0_status (jx_HK_nil rfl) (fun p => p == 30) 30 ?_
    simp only [jw, ju, jx_tg, Int.cast_ofNat_Int, Int.reduceAdd, Int.reduceToNat, Nat.reduceAdd, Nat.reduceMul, Nat.reduceBEq, Nat.reduceLeDiff, Int.reduceLE, Int.reduceLT, Int.reduceEq, Int.reduceNeg, Int.reduceSub, Int.reduceMul, not_false_eq_true, true_and, and_true, and_self, Bool.or_false, Bool.false_or, Bool.or_true, Bool.true_or, List.length_nil, List.length_cons, Nat.zero_le, or_true, true_or, Nat.le_refl, ↓reduceIte, Nat.reduceEqDiff, forall_const, false_and, and_false, false_implies, implies_true, not_true_eq_false, or_false, false_or, ne_eq, jd_X0_status, jf_X0, js_X0_isIn, js_X0_refuse, cs_X0_status, jx_ck_c]
    refine ⟨rb, fun c => ⟨by omega, ?_⟩, fun c => ?_⟩
    · have e := hR.2.2.2.2.2.1.2.2.1 (-b) (by omega) (by omega)
      refine jx_runL (o := jo_X0) (cs := cs_X0_status) (hf := jx_nh) jo_X0_ok hc_X0_status (jx_HK_nil rfl) (fun _ => false) 20 ?_
      simp only [jw, ju, jx_tg, Int.cast_ofNat_Int, Int.reduceAdd, Int.reduceToNat, Nat.reduceAdd, Nat.reduceMul, Nat.reduceBEq, Nat.reduceLeDiff, Int.reduceLE, Int.reduceLT, Int.reduceEq, Int.reduceNeg, Int.reduceSub, Int.reduceMul, not_false_eq_true, true_and, and_true, and_self, Bool.or_false, Bool.false_or, Bool.or_true, Bool.true_or, List.length_nil, List.length_cons, Nat.zero_le, or_true, true_or, Nat.le_refl, ↓reduceIte, Nat.reduceEqDiff, forall_const, false_and, and_false, false_implies, implies_true, not_true_eq_false, or_false, false_or, ne_eq, jd_X0_status, jf_X0, e, js_X0_isIn, js_X0_refuse, cs_X0_status, jx_ck_c]
      exact rK_s hR (hK.1 c)
    · refine jx_runL (o := jo_X0) (cs := cs_X0_status) (hf := jx_nh) jo_X0_ok hc_X0_status (jx_HK_nil rfl) (fun _ => false) 20 ?_
      simp only [jw, ju, jx_tg, Int.cast_ofNat_Int, Int.reduceAdd, Int.reduceToNat, Nat.reduceAdd, Nat.reduceMul, Nat.reduceBEq, Nat.reduceLeDiff, Int.reduceLE, Int.reduceLT, Int.reduceEq, Int.reduceNeg, Int.reduceSub, Int.reduceMul, not_false_eq_true, true_and, and_true, and_self, Bool.or_false, Bool.false_or, Bool.or_true, Bool.true_or, List.length_nil, List.length_cons, Nat.zero_le, or_true, true_or, Nat.le_refl, ↓reduceIte, Nat.reduceEqDiff, forall_const, false_and, and_false, false_implies, implies_true, not_true_eq_false, or_false, false_or, ne_eq, jd_X0_status, jf_X0, js_X0_isIn, js_X0_refuse, cs_X0_status, jx_ck_c]
      exact rK_no h9.2 (by decide) hR rFr_rf (hK.2 c)
  · exact hS.elim
def js_X0_wrong : jx_Sp := fun as g M Po => match as with
  | [(60, _, x), (0, _, w)] => ∃ S, (rR x S g M ∧ mW S ∧ jx_r w) ∧ rK x g M Po 0 (f_wrong w S).1 (f_wrong w S).2
  | _ => False
def cs_X0_wrong : jx_Cs := [(1135, 3, 0, 0, js_X0_isIn), (1161, 2, 0, 0, js_X0_refuse)]
theorem hc_X0_wrong {D : jx_D} {l : Launch} : jx_CsOK D l "LoopLane" 5 cs_X0_wrong := List.forall_mem_cons.mpr ⟨jc_X0_378 (jt_X0_isIn l) (fun as g M Po (h : js_X0_isIn as g M Po) => by unfold js_X0_isIn at h; split at h <;> first | exact h.elim | exact rfl) (by decide), List.forall_mem_cons.mpr ⟨jc_X0_387 (jt_X0_refuse l) (fun as g M Po (h : js_X0_refuse as g M Po) => by unfold js_X0_refuse at h; split at h <;> first | exact h.elim | exact ⟨_, _, _, rfl, rfl⟩) (by decide), fun _ h => absurd h List.not_mem_nil⟩⟩
set_option maxHeartbeats 4000000 in
theorem jt_X0_wrong (l : Launch) : jx_Ct l yX0_wrong (ws_ yX0_wrong cX0_wrong 2 (some .int)) 5 0 0 js_X0_wrong := by
  refine jx_Ct_c (rc := 0) (by decide) rfl (fun D as g M Po hS => ?_)
  unfold js_X0_wrong at hS
  split at hS
  · rename_i n1 x n2 w
    obtain ⟨S, ⟨hR, hW, rb⟩, hK⟩ := hS
    have hB := hW.1
    have h9 := hB.1
    have x0 := hR.1.1
    have r5 := hR.2.1.1
    unfold f_wrong at hK
    simp only [rK_ite, mno] at hK
    refine ⟨Nat.le_of_ble_eq_true rfl, ?_⟩
    refine jx_runL (o := jo_X0) (cs := cs_X0_wrong) (hf := jx_nh) jo_X0_ok hc_X0_wrong (jx_HK_nil rfl) (fun p => p == 32) 30 ?_
    simp only [jw, ju, jx_tg, Int.cast_ofNat_Int, Int.reduceAdd, Int.reduceToNat, Nat.reduceAdd, Nat.reduceMul, Nat.reduceBEq, Nat.reduceLeDiff, Int.reduceLE, Int.reduceLT, Int.reduceEq, Int.reduceNeg, Int.reduceSub, Int.reduceMul, not_false_eq_true, true_and, and_true, and_self, Bool.or_false, Bool.false_or, Bool.or_true, Bool.true_or, List.length_nil, List.length_cons, Nat.zero_le, or_true, true_or, Nat.le_refl, ↓reduceIte, Nat.reduceEqDiff, forall_const, false_and, and_false, false_implies, implies_true, not_true_eq_false, or_false, false_or, ne_eq, jd_X0_wrong, jf_X0, js_X0_isIn, js_X0_refuse, cs_X0_wrong, jx_ck_c]
    refine ⟨rb, fun c => ⟨by omega, ?_⟩, fun c => ?_⟩
    · have e := hR.2.2.2.2.2.1.2.2.2.1 w (by omega) (by omega)
      refine jx_runL (o := jo_X0) (cs := cs_X0_wrong) (hf := jx_nh) jo_X0_ok hc_X0_wrong (jx_HK_nil rfl) (fun _ => false) 20 ?_
      simp only [jw, ju, jx_tg, Int.cast_ofNat_Int, Int.reduceAdd, Int.reduceToNat, Nat.reduceAdd, Nat.reduceMul, Nat.reduceBEq, Nat.reduceLeDiff, Int.reduceLE, Int.reduceLT, Int.reduceEq, Int.reduceNeg, Int.reduceSub, Int.reduceMul, not_false_eq_true, true_and, and_true, and_self, Bool.or_false, Bool.false_or, Bool.or_true, Bool.true_or, List.length_nil, List.length_cons, Nat.zero_le, or_true, true_or, Nat.le_refl, ↓reduceIte, Nat.reduceEqDiff, forall_const, false_and, and_false, false_implies, implies_true, not_true_eq_false, or_false, false_or, ne_eq, jd_X0_wrong, jf_X0, e, js_X0_isIn, js_X0_refuse, cs_X0_wrong, jx_ck_c]
      exact rK_s hR (hK.1 c)
    · refine jx_runL (o := jo_X0) (cs := cs_X0_wrong) (hf := jx_nh) jo_X0_ok hc_X0_wrong (jx_HK_nil rfl) (fun _ => false) 20 ?_
      simp only [jw, ju, jx_tg, Int.cast_ofNat_Int, Int.reduceAdd, Int.reduceToNat, Nat.reduceAdd, Nat.reduceMul, Nat.reduceBEq, Nat.reduceLeDiff, Int.reduceLE, Int.reduceLT, Int.reduceEq, Int.reduceNeg, Int.reduceSub, Int.reduceMul, not_false_eq_true, true_and, and_true, and_self, Bool.or_false, Bool.false_or, Bool.or_true, Bool.true_or, List.length_nil, List.length_cons, Nat.zero_le, or_true, true_or, Nat.le_refl, ↓reduceIte, Nat.reduceEqDiff, forall_const, false_and, and_false, false_implies, implies_true, not_true_eq_false, or_false, false_or, ne_eq, jd_X0_wrong, jf_X0, js_X0_isIn, js_X0_refuse, cs_X0_wrong, jx_ck_c]
      exact rK_no h9.2 (by decide) hR rFr_rf (hK.2 c)
  · exact hS.elim
def js_X0_end : jx_Sp := fun as g M Po => match as with
  | [(60, _, x), (0, _, a)] => ∃ S, (rR x S g M ∧ mW S ∧ jx_r a) ∧ rK x g M Po 1 (f_end a S).1 (f_end a S).2
  | _ => False
def cs_X0_end : jx_Cs := [(1278, 2, 0, 0, js_X0_isAct), (1161, 2, 0, 0, js_X0_refuse)]
theorem hc_X0_end {D : jx_D} {l : Launch} : jx_CsOK D l "LoopLane" 5 cs_X0_end := List.forall_mem_cons.mpr ⟨jc_X0_426 (jt_X0_isAct l) (fun as g M Po (h : js_X0_isAct as g M Po) => by unfold js_X0_isAct at h; split at h <;> first | exact h.elim | exact ⟨_, _, _, rfl, rfl⟩) (by decide), List.forall_mem_cons.mpr ⟨jc_X0_387 (jt_X0_refuse l) (fun as g M Po (h : js_X0_refuse as g M Po) => by unfold js_X0_refuse at h; split at h <;> first | exact h.elim | exact ⟨_, _, _, rfl, rfl⟩) (by decide), fun _ h => absurd h List.not_mem_nil⟩⟩
set_option maxHeartbeats 4000000 in
theorem jt_X0_end (l : Launch) : jx_Ct l yX0_end (ws_ yX0_end cX0_end 2 (some .long)) 5 0 0 js_X0_end := by
  refine jx_Ct_c (rc := 1) (by decide) rfl (fun D as g M Po hS => ?_)
  unfold js_X0_end at hS
  split at hS
  · rename_i n1 x n2 a
    obtain ⟨S, ⟨hR, hW, ra⟩, hK⟩ := hS
    have hB := hW.1
    have h9 := hB.1
    have x0 := hR.1.1
    have r5 := hR.2.1.1
    unfold f_end mm_isa at hK
    simp only [rK_ite, mno] at hK
    refine ⟨Nat.le_of_ble_eq_true rfl, ?_⟩
    have r44 := hR.2.2.2.2.1.1.2.2.2.2.2.2
    have w44 := hW.2.2.2.1
    refine jx_runL (o := jo_X0) (cs := cs_X0_end) (hf := jx_nh) jo_X0_ok hc_X0_end (jx_HK_nil rfl) (fun p => p == 48) 30 ?_
    simp only [jw, ju, jx_tg, Int.cast_ofNat_Int, Int.reduceAdd, Int.reduceToNat, Nat.reduceAdd, Nat.reduceMul, Nat.reduceBEq, Nat.reduceLeDiff, Int.reduceLE, Int.reduceLT, Int.reduceEq, Int.reduceNeg, Int.reduceSub, Int.reduceMul, not_false_eq_true, true_and, and_true, and_self, Bool.or_false, Bool.false_or, Bool.or_true, Bool.true_or, List.length_nil, List.length_cons, Nat.zero_le, or_true, true_or, Nat.le_refl, ↓reduceIte, Nat.reduceEqDiff, forall_const, false_and, and_false, false_implies, implies_true, not_true_eq_false, or_false, false_or, ne_eq, jd_X0_end, jf_X0, r5, r44, js_X0_isAct, js_X0_refuse, cs_X0_end, jx_ck_c]
    refine ⟨⟨ra, by omega⟩, fun c => ⟨by omega, fun c2 => ?_, fun c2 => ⟨by omega, ?_⟩⟩, fun c => rK_no h9.2 (by decide) hR rFr_rf (hK.2 c)⟩
    · have hA := hR.2.1.2.2.1 a c.1 c.2
      refine ⟨by omega, rA_k3 hA x0 c.1, ?_⟩
      refine jx_runL (o := jo_X0) (cs := cs_X0_end) (hf := jx_nh) jo_X0_ok hc_X0_end (jx_HK_nil rfl) (fun _ => false) 20 ?_
      simp only [jw, ju, jx_tg, Int.cast_ofNat_Int, Int.reduceAdd, Int.reduceToNat, Nat.reduceAdd, Nat.reduceMul, Nat.reduceBEq, Nat.reduceLeDiff, Int.reduceLE, Int.reduceLT, Int.reduceEq, Int.reduceNeg, Int.reduceSub, Int.reduceMul, not_false_eq_true, true_and, and_true, and_self, Bool.or_false, Bool.false_or, Bool.or_true, Bool.true_or, List.length_nil, List.length_cons, Nat.zero_le, or_true, true_or, Nat.le_refl, ↓reduceIte, Nat.reduceEqDiff, forall_const, false_and, and_false, false_implies, implies_true, not_true_eq_false, or_false, false_or, ne_eq, jd_X0_end, jf_X0, rA_first hA, js_X0_isAct, js_X0_refuse, cs_X0_end, jx_ck_c]
      exact rK_s hR ((hK.1 c).1 (by omega))
    · have e := hR.2.2.2.2.1.2 (by omega) a c.1 c.2
      rw [show x + 38 = x + 37 + 1 by omega] at e
      refine jx_runL (o := jo_X0) (cs := cs_X0_end) (hf := jx_nh) jo_X0_ok hc_X0_end (jx_HK_nil rfl) (fun _ => false) 20 ?_
      simp only [jw, ju, jx_tg, Int.cast_ofNat_Int, Int.reduceAdd, Int.reduceToNat, Nat.reduceAdd, Nat.reduceMul, Nat.reduceBEq, Nat.reduceLeDiff, Int.reduceLE, Int.reduceLT, Int.reduceEq, Int.reduceNeg, Int.reduceSub, Int.reduceMul, not_false_eq_true, true_and, and_true, and_self, Bool.or_false, Bool.false_or, Bool.or_true, Bool.true_or, List.length_nil, List.length_cons, Nat.zero_le, or_true, true_or, Nat.le_refl, ↓reduceIte, Nat.reduceEqDiff, forall_const, false_and, and_false, false_implies, implies_true, not_true_eq_false, or_false, false_or, ne_eq, jd_X0_end, jf_X0, e, js_X0_isAct, js_X0_refuse, cs_X0_end, jx_ck_c]
      exact rK_s hR ((hK.1 c).2 (by omega))
  · exact hS.elim
def js_X0_told : jx_Sp := fun as g M Po => match as with
  | [(60, _, x), (0, _, w)] => ∃ S, (rR x S g M ∧ mW S ∧ jx_r w) ∧ rK x g M Po 0 (f_told w S).1 (f_told w S).2
  | _ => False
def cs_X0_told : jx_Cs := [(1161, 2, 0, 0, js_X0_refuse)]
theorem hc_X0_told {D : jx_D} {l : Launch} : jx_CsOK D l "LoopLane" 5 cs_X0_told := List.forall_mem_cons.mpr ⟨jc_X0_387 (jt_X0_refuse l) (fun as g M Po (h : js_X0_refuse as g M Po) => by unfold js_X0_refuse at h; split at h <;> first | exact h.elim | exact ⟨_, _, _, rfl, rfl⟩) (by decide), fun _ h => absurd h List.not_mem_nil⟩
set_option maxHeartbeats 4000000 in
theorem jt_X0_told (l : Launch) : jx_Ct l yX0_told (ws_ yX0_told cX0_told 2 (some .int)) 5 0 0 js_X0_told := by
  refine jx_Ct_c (rc := 0) (by decide) rfl (fun D as g M Po hS => ?_)
  unfold js_X0_told at hS
  split at hS
  · rename_i n1 x n2 w
    obtain ⟨S, ⟨hR, hW, r2⟩, hK⟩ := hS
    have hB := hW.1
    have h9 := hB.1
    have x0 := hR.1.1
    have r5 := hR.2.1.1
    unfold f_told at hK
    simp only [rK_ite, mno] at hK
    refine ⟨Nat.le_of_ble_eq_true rfl, ?_⟩
    obtain ⟨q0, q1, q2, q3, q4, q5, q6⟩ := hR.2.2.2.2.1.1
    by_cases cw : 0 ≤ w ∧ w ≤ 5
    · have hK2 := hK.1 cw
      refine jx_runL (o := jo_X0) (cs := cs_X0_told) (hf := jx_nh) jo_X0_ok hc_X0_told (jx_HK_nil rfl) (fun p => p == 1) 20 ?_
      simp only [jw, ju, jx_tg, Int.cast_ofNat_Int, Int.reduceAdd, Int.reduceToNat, Nat.reduceAdd, Nat.reduceMul, Nat.reduceBEq, Nat.reduceLeDiff, Int.reduceLE, Int.reduceLT, Int.reduceEq, Int.reduceNeg, Int.reduceSub, Int.reduceMul, not_false_eq_true, true_and, and_true, and_self, Bool.or_false, Bool.false_or, Bool.or_true, Bool.true_or, List.length_nil, List.length_cons, Nat.zero_le, or_true, true_or, Nat.le_refl, ↓reduceIte, Nat.reduceEqDiff, forall_const, false_and, and_false, false_implies, implies_true, not_true_eq_false, or_false, false_or, ne_eq, jd_X0_told, jf_X0, js_X0_refuse, cs_X0_told, jx_ck_c]
      rcases (show w = 0 ∨ w = 1 ∨ w = 2 ∨ w = 3 ∨ w = 4 ∨ w = 5 by omega) with rfl | rfl | rfl | rfl | rfl | rfl
      · refine jx_s_tsI (dflt := 95) (lo := 0) (hi := 5) (offs := #[39, 47, 55, 63, 71, 79]) (len := 39) (off := 39) (tgt := 40) (by decide +kernel) r2 (by decide) (by decide) rfl rfl ?_
        refine jx_runL (o := jo_X0) (cs := cs_X0_told) (hf := jx_nh) jo_X0_ok hc_X0_told (jx_HK_nil rfl) (fun _ => false) 20 ?_
        simp only [jw, ju, jx_tg, Int.cast_ofNat_Int, Int.reduceAdd, Int.reduceToNat, Nat.reduceAdd, Nat.reduceMul, Nat.reduceBEq, Nat.reduceLeDiff, Int.reduceLE, Int.reduceLT, Int.reduceEq, Int.reduceNeg, Int.reduceSub, Int.reduceMul, not_false_eq_true, true_and, and_true, and_self, Bool.or_false, Bool.false_or, Bool.or_true, Bool.true_or, List.length_nil, List.length_cons, Nat.zero_le, or_true, true_or, Nat.le_refl, ↓reduceIte, Nat.reduceEqDiff, forall_const, false_and, and_false, false_implies, implies_true, not_true_eq_false, or_false, false_or, ne_eq, jd_X0_told, jf_X0, q0, js_X0_refuse, cs_X0_told, jx_ck_c]
        exact rK_s hR hK2
      · refine jx_s_tsI (dflt := 95) (lo := 0) (hi := 5) (offs := #[39, 47, 55, 63, 71, 79]) (len := 39) (off := 47) (tgt := 48) (by decide +kernel) r2 (by decide) (by decide) rfl rfl ?_
        refine jx_runL (o := jo_X0) (cs := cs_X0_told) (hf := jx_nh) jo_X0_ok hc_X0_told (jx_HK_nil rfl) (fun _ => false) 20 ?_
        simp only [jw, ju, jx_tg, Int.cast_ofNat_Int, Int.reduceAdd, Int.reduceToNat, Nat.reduceAdd, Nat.reduceMul, Nat.reduceBEq, Nat.reduceLeDiff, Int.reduceLE, Int.reduceLT, Int.reduceEq, Int.reduceNeg, Int.reduceSub, Int.reduceMul, not_false_eq_true, true_and, and_true, and_self, Bool.or_false, Bool.false_or, Bool.or_true, Bool.true_or, List.length_nil, List.length_cons, Nat.zero_le, or_true, true_or, Nat.le_refl, ↓reduceIte, Nat.reduceEqDiff, forall_const, false_and, and_false, false_implies, implies_true, not_true_eq_false, or_false, false_or, ne_eq, jd_X0_told, jf_X0, q1, js_X0_refuse, cs_X0_told, jx_ck_c]
        exact rK_s hR hK2
      · refine jx_s_tsI (dflt := 95) (lo := 0) (hi := 5) (offs := #[39, 47, 55, 63, 71, 79]) (len := 39) (off := 55) (tgt := 56) (by decide +kernel) r2 (by decide) (by decide) rfl rfl ?_
        refine jx_runL (o := jo_X0) (cs := cs_X0_told) (hf := jx_nh) jo_X0_ok hc_X0_told (jx_HK_nil rfl) (fun _ => false) 20 ?_
        simp only [jw, ju, jx_tg, Int.cast_ofNat_Int, Int.reduceAdd, Int.reduceToNat, Nat.reduceAdd, Nat.reduceMul, Nat.reduceBEq, Nat.reduceLeDiff, Int.reduceLE, Int.reduceLT, Int.reduceEq, Int.reduceNeg, Int.reduceSub, Int.reduceMul, not_false_eq_true, true_and, and_true, and_self, Bool.or_false, Bool.false_or, Bool.or_true, Bool.true_or, List.length_nil, List.length_cons, Nat.zero_le, or_true, true_or, Nat.le_refl, ↓reduceIte, Nat.reduceEqDiff, forall_const, false_and, and_false, false_implies, implies_true, not_true_eq_false, or_false, false_or, ne_eq, jd_X0_told, jf_X0, q2, js_X0_refuse, cs_X0_told, jx_ck_c]
        exact rK_s hR hK2
      · refine jx_s_tsI (dflt := 95) (lo := 0) (hi := 5) (offs := #[39, 47, 55, 63, 71, 79]) (len := 39) (off := 63) (tgt := 64) (by decide +kernel) r2 (by decide) (by decide) rfl rfl ?_
        refine jx_runL (o := jo_X0) (cs := cs_X0_told) (hf := jx_nh) jo_X0_ok hc_X0_told (jx_HK_nil rfl) (fun _ => false) 20 ?_
        simp only [jw, ju, jx_tg, Int.cast_ofNat_Int, Int.reduceAdd, Int.reduceToNat, Nat.reduceAdd, Nat.reduceMul, Nat.reduceBEq, Nat.reduceLeDiff, Int.reduceLE, Int.reduceLT, Int.reduceEq, Int.reduceNeg, Int.reduceSub, Int.reduceMul, not_false_eq_true, true_and, and_true, and_self, Bool.or_false, Bool.false_or, Bool.or_true, Bool.true_or, List.length_nil, List.length_cons, Nat.zero_le, or_true, true_or, Nat.le_refl, ↓reduceIte, Nat.reduceEqDiff, forall_const, false_and, and_false, false_implies, implies_true, not_true_eq_false, or_false, false_or, ne_eq, jd_X0_told, jf_X0, q3, js_X0_refuse, cs_X0_told, jx_ck_c]
        exact rK_s hR hK2
      · refine jx_s_tsI (dflt := 95) (lo := 0) (hi := 5) (offs := #[39, 47, 55, 63, 71, 79]) (len := 39) (off := 71) (tgt := 72) (by decide +kernel) r2 (by decide) (by decide) rfl rfl ?_
        refine jx_runL (o := jo_X0) (cs := cs_X0_told) (hf := jx_nh) jo_X0_ok hc_X0_told (jx_HK_nil rfl) (fun _ => false) 20 ?_
        simp only [jw, ju, jx_tg, Int.cast_ofNat_Int, Int.reduceAdd, Int.reduceToNat, Nat.reduceAdd, Nat.reduceMul, Nat.reduceBEq, Nat.reduceLeDiff, Int.reduceLE, Int.reduceLT, Int.reduceEq, Int.reduceNeg, Int.reduceSub, Int.reduceMul, not_false_eq_true, true_and, and_true, and_self, Bool.or_false, Bool.false_or, Bool.or_true, Bool.true_or, List.length_nil, List.length_cons, Nat.zero_le, or_true, true_or, Nat.le_refl, ↓reduceIte, Nat.reduceEqDiff, forall_const, false_and, and_false, false_implies, implies_true, not_true_eq_false, or_false, false_or, ne_eq, jd_X0_told, jf_X0, q4, js_X0_refuse, cs_X0_told, jx_ck_c]
        exact rK_s hR hK2
      · refine jx_s_tsI (dflt := 95) (lo := 0) (hi := 5) (offs := #[39, 47, 55, 63, 71, 79]) (len := 39) (off := 79) (tgt := 80) (by decide +kernel) r2 (by decide) (by decide) rfl rfl ?_
        refine jx_runL (o := jo_X0) (cs := cs_X0_told) (hf := jx_nh) jo_X0_ok hc_X0_told (jx_HK_nil rfl) (fun _ => false) 20 ?_
        simp only [jw, ju, jx_tg, Int.cast_ofNat_Int, Int.reduceAdd, Int.reduceToNat, Nat.reduceAdd, Nat.reduceMul, Nat.reduceBEq, Nat.reduceLeDiff, Int.reduceLE, Int.reduceLT, Int.reduceEq, Int.reduceNeg, Int.reduceSub, Int.reduceMul, not_false_eq_true, true_and, and_true, and_self, Bool.or_false, Bool.false_or, Bool.or_true, Bool.true_or, List.length_nil, List.length_cons, Nat.zero_le, or_true, true_or, Nat.le_refl, ↓reduceIte, Nat.reduceEqDiff, forall_const, false_and, and_false, false_implies, implies_true, not_true_eq_false, or_false, false_or, ne_eq, jd_X0_told, jf_X0, q5, js_X0_refuse, cs_X0_told, jx_ck_c]
        have w43 := hW.2.2.2.2.2.2
        have hK2 : rK x g M Po 0 (S 0 43) S := hK2
        refine ⟨by omega, fun c => ?_, fun c => ?_⟩
        · rw [c] at hK2; exact rK_s hR hK2
        · rw [show S 0 43 = 1 by omega] at hK2; exact rK_s hR hK2
    · refine jx_runL (o := jo_X0) (cs := cs_X0_told) (hf := jx_nh) jo_X0_ok hc_X0_told (jx_HK_nil rfl) (fun p => p == 1) 20 ?_
      simp only [jw, ju, jx_tg, Int.cast_ofNat_Int, Int.reduceAdd, Int.reduceToNat, Nat.reduceAdd, Nat.reduceMul, Nat.reduceBEq, Nat.reduceLeDiff, Int.reduceLE, Int.reduceLT, Int.reduceEq, Int.reduceNeg, Int.reduceSub, Int.reduceMul, not_false_eq_true, true_and, and_true, and_self, Bool.or_false, Bool.false_or, Bool.or_true, Bool.true_or, List.length_nil, List.length_cons, Nat.zero_le, or_true, true_or, Nat.le_refl, ↓reduceIte, Nat.reduceEqDiff, forall_const, false_and, and_false, false_implies, implies_true, not_true_eq_false, or_false, false_or, ne_eq, jd_X0_told, jf_X0, js_X0_refuse, cs_X0_told, jx_ck_c]
      refine jx_s_tsO (dflt := 95) (lo := 0) (hi := 5) (offs := #[39, 47, 55, 63, 71, 79]) (len := 39) (tgt := 96) (by decide +kernel) r2 (by omega) rfl ?_
      refine jx_runL (o := jo_X0) (cs := cs_X0_told) (hf := jx_nh) jo_X0_ok hc_X0_told (jx_HK_nil rfl) (fun _ => false) 20 ?_
      simp only [jw, ju, jx_tg, Int.cast_ofNat_Int, Int.reduceAdd, Int.reduceToNat, Nat.reduceAdd, Nat.reduceMul, Nat.reduceBEq, Nat.reduceLeDiff, Int.reduceLE, Int.reduceLT, Int.reduceEq, Int.reduceNeg, Int.reduceSub, Int.reduceMul, not_false_eq_true, true_and, and_true, and_self, Bool.or_false, Bool.false_or, Bool.or_true, Bool.true_or, List.length_nil, List.length_cons, Nat.zero_le, or_true, true_or, Nat.le_refl, ↓reduceIte, Nat.reduceEqDiff, forall_const, false_and, and_false, false_implies, implies_true, not_true_eq_false, or_false, false_or, ne_eq, jd_X0_told, jf_X0, js_X0_refuse, cs_X0_told, jx_ck_c]
      exact rK_no h9.2 (by decide) hR rFr_rf (hK.2 cw)
  · exact hS.elim
def js_X0_forge : jx_Sp := fun as g M Po => match as with
  | [(60, _, x), (0, _, a), (0, _, t)] => ∃ S, (rR x S g M ∧ mW S ∧ jx_r a ∧ jx_r t) ∧ rK x g M Po 0 (f_forge a t S).1 (f_forge a t S).2
  | _ => False
def cs_X0_forge : jx_Cs := [(1278, 2, 0, 0, js_X0_isAct), (1161, 2, 0, 0, js_X0_refuse)]
theorem hc_X0_forge {D : jx_D} {l : Launch} : jx_CsOK D l "LoopLane" 5 cs_X0_forge := List.forall_mem_cons.mpr ⟨jc_X0_426 (jt_X0_isAct l) (fun as g M Po (h : js_X0_isAct as g M Po) => by unfold js_X0_isAct at h; split at h <;> first | exact h.elim | exact ⟨_, _, _, rfl, rfl⟩) (by decide), List.forall_mem_cons.mpr ⟨jc_X0_387 (jt_X0_refuse l) (fun as g M Po (h : js_X0_refuse as g M Po) => by unfold js_X0_refuse at h; split at h <;> first | exact h.elim | exact ⟨_, _, _, rfl, rfl⟩) (by decide), fun _ h => absurd h List.not_mem_nil⟩⟩
set_option maxHeartbeats 4000000 in
theorem jt_X0_forge (l : Launch) : jx_Ct l yX0_forge (ws_ yX0_forge cX0_forge 4 (some .int)) 5 0 0 js_X0_forge := by
  refine jx_Ct_c (rc := 0) (by decide) rfl (fun D as g M Po hS => ?_)
  unfold js_X0_forge at hS
  split at hS
  · rename_i n1 x n2 a n3 t
    obtain ⟨S, ⟨hR, hW, ra, rt⟩, hK⟩ := hS
    have hB := hW.1
    have h9 := hB.1
    have x0 := hR.1.1
    have r5 := hR.2.1.1
    unfold f_forge mm_isa at hK
    simp only [rK_ite, mno] at hK
    refine ⟨Nat.le_of_ble_eq_true rfl, ?_⟩
    have l1 := hR.2.2.2.1.1
    have w27 := hW.2.1
    have upd : S 0 27 ≠ 0 → (0 ≤ a ∧ a < S 0 9) → rR x (jx_u S 27 a t) g (jx_u M (x + 32) a t) := by
      intro c1 c2
      have z : mZ S (jx_u S 27 a t) := mZ_j mZ_rf (by decide)
      have sr : ∀ j, j ≠ 27 → jx_u S 27 a t j = S j := fun j h => jx_u_row h
      have mz : ∀ z k, z ≠ x + 32 → jx_u M (x + 32) a t z k = M z k := fun z k h => jx_u_a _ _ _ _ _ _ h
      refine ⟨hR.1, rBd_c (by rw [z.2.1]; exact h9.2) (rBd_Z z hR.2.1) (fun z k w => mz z k (by unfold qBd at w; omega)), rEd_c (rEd_Z z hR.2.2.1) (fun z k w => mz z k (by unfold qEd at w; omega)), ?_, rRs_S (rRs_c hR.2.2.2.2.1 (fun z k w => mz z k (by unfold qRs at w; omega))) (fun k _ _ => by rw [sr 0 (by decide)]) (by rw [sr 0 (by decide)]) (sr _ (by decide)), rMs_S (rMs_c hR.2.2.2.2.2.1 (fun z k w => mz z k (by unfold qMs at w; omega))) (by rw [sr 0 (by decide)]) (by rw [sr 0 (by decide)]) (sr _ (by decide)) (sr _ (by decide)), rSl_S (rSl_c hR.2.2.2.2.2.2 (fun z k w => mz z k (by unfold qSl at w; omega))) (sr _ (by decide)) (sr _ (by decide)) (sr _ (by decide))⟩
      have hl := hR.2.2.2.1
      unfold rLd at hl ⊢
      rw [sr 0 (by decide), mz _ _ (by omega), mz _ _ (by omega), sr 24 (by decide), sr 25 (by decide)]
      refine ⟨hl.1, fun c => ⟨(hl.2 c).1, fun b b0 b1 => ?_⟩⟩
      have := (hl.2 c).2 b b0 b1
      rw [mz _ _ (by omega), mz _ _ (by omega)]
      refine ⟨this.1, this.2.1, ?_⟩
      by_cases d : b = a
      · rw [d, jx_u_eq, jx_u_eq]
      · rw [jx_u_j _ _ _ _ _ _ d, jx_u_j _ _ _ _ _ _ d]; exact this.2.2
    by_cases c0 : S 0 27 = 0
    · rw [if_pos c0] at l1
      refine jx_runL (o := jo_X0) (cs := cs_X0_forge) (hf := jx_nh) jo_X0_ok hc_X0_forge (jx_HK_nil rfl) (fun p => p == 14) 20 ?_
      simp only [jw, ju, jx_tg, Int.cast_ofNat_Int, Int.reduceAdd, Int.reduceToNat, Nat.reduceAdd, Nat.reduceMul, Nat.reduceBEq, Nat.reduceLeDiff, Int.reduceLE, Int.reduceLT, Int.reduceEq, Int.reduceNeg, Int.reduceSub, Int.reduceMul, not_false_eq_true, true_and, and_true, and_self, Bool.or_false, Bool.false_or, Bool.or_true, Bool.true_or, List.length_nil, List.length_cons, Nat.zero_le, or_true, true_or, Nat.le_refl, ↓reduceIte, Nat.reduceEqDiff, forall_const, false_and, and_false, false_implies, implies_true, not_true_eq_false, or_false, false_or, ne_eq, jd_X0_forge, jf_X0, l1, js_X0_isAct, js_X0_refuse, cs_X0_forge, jx_ck_c]
      exact rK_no h9.2 (by decide) hR rFr_rf (hK.1 c0)
    · rw [if_neg c0] at l1
      have hK2 := hK.2 c0
      refine jx_runL (o := jo_X0) (cs := cs_X0_forge) (hf := jx_nh) jo_X0_ok hc_X0_forge (jx_HK_nil rfl) (fun p => p == 7 || p == 56) 60 ?_
      simp only [jw, ju, jx_tg, Int.cast_ofNat_Int, Int.reduceAdd, Int.reduceToNat, Nat.reduceAdd, Nat.reduceMul, Nat.reduceBEq, Nat.reduceLeDiff, Int.reduceLE, Int.reduceLT, Int.reduceEq, Int.reduceNeg, Int.reduceSub, Int.reduceMul, not_false_eq_true, true_and, and_true, and_self, Bool.or_false, Bool.false_or, Bool.or_true, Bool.true_or, List.length_nil, List.length_cons, Nat.zero_le, or_true, true_or, Nat.le_refl, ↓reduceIte, Nat.reduceEqDiff, forall_const, false_and, and_false, false_implies, implies_true, not_true_eq_false, or_false, false_or, ne_eq, jd_X0_forge, jf_X0, l1, r5, js_X0_isAct, js_X0_refuse, cs_X0_forge, jx_ck_c]
      refine ⟨⟨ra, by omega⟩, fun c => ?_, fun c => rK_no h9.2 (by decide) hR rFr_rf (hK2.2 c)⟩
      have hK3 := hK2.1 c
      refine ⟨rt, fun c2 => ⟨rt, fun c3 => by omega, fun c3 => rK_no h9.2 (by decide) hR rFr_rf (hK3.1 c2)⟩, fun c2 => ⟨rt, fun c3 => ?_, fun c3 => ⟨rt, fun c4 => rK_no h9.2 (by decide) hR rFr_rf ((hK3.2 c2).1 (by omega)), fun c4 => by omega⟩⟩⟩
      have ef := ((hR.2.2.2.1.2 c0).2 a c.1 c.2).2.2
      refine jx_runL (o := jo_X0) (cs := cs_X0_forge) (hf := jx_nh) jo_X0_ok hc_X0_forge (jx_HK_nil rfl) (fun _ => false) 30 ?_
      simp only [jw, ju, jx_tg, Int.cast_ofNat_Int, Int.reduceAdd, Int.reduceToNat, Nat.reduceAdd, Nat.reduceMul, Nat.reduceBEq, Nat.reduceLeDiff, Int.reduceLE, Int.reduceLT, Int.reduceEq, Int.reduceNeg, Int.reduceSub, Int.reduceMul, not_false_eq_true, true_and, and_true, and_self, Bool.or_false, Bool.false_or, Bool.or_true, Bool.true_or, List.length_nil, List.length_cons, Nat.zero_le, or_true, true_or, Nat.le_refl, ↓reduceIte, Nat.reduceEqDiff, forall_const, false_and, and_false, false_implies, implies_true, not_true_eq_false, or_false, false_or, ne_eq, jd_X0_forge, jf_X0, ef, js_X0_isAct, js_X0_refuse, cs_X0_forge, jx_ck_c]
      exact ⟨by omega, by omega, (hK3.2 c2).2 (by omega) _ _ (upd c0 c) (rFr_u rFr_rf (by omega))⟩
  · exact hS.elim
def js_X0_count : jx_Sp := fun as g M Po => match as with
  | [(60, _, x), (0, _, w)] => ∃ S, (rR x S g M ∧ mW S ∧ jx_r w) ∧ rK x g M Po 0 (f_count w S).1 (f_count w S).2
  | _ => False
def cs_X0_count : jx_Cs := [(1161, 2, 0, 0, js_X0_refuse), (105, 1, 0, 0, ja_sort)]
theorem hc_X0_count {D : jx_D} {l : Launch} : jx_CsOK D l "LoopLane" 5 cs_X0_count := List.forall_mem_cons.mpr ⟨jc_X0_387 (jt_X0_refuse l) (fun as g M Po (h : js_X0_refuse as g M Po) => by unfold js_X0_refuse at h; split at h <;> first | exact h.elim | exact ⟨_, _, _, rfl, rfl⟩) (by decide), List.forall_mem_cons.mpr ⟨jz_sort (by decide), fun _ h => absurd h List.not_mem_nil⟩⟩
set_option maxHeartbeats 4000000 in
theorem jt_X0_count (l : Launch) : jx_Ct l yX0_count (ws_ yX0_count cX0_count 4 (some .int)) 5 0 0 js_X0_count := by
  refine jx_Ct_c (rc := 0) (by decide) rfl (fun D as g M Po hS => ?_)
  unfold js_X0_count at hS
  split at hS
  · rename_i n1 x n2 w
    obtain ⟨S, ⟨hR, hW, r2⟩, hK⟩ := hS
    have hB := hW.1
    have h9 := hB.1
    have x0 := hR.1.1
    have r5 := hR.2.1.1
    unfold f_count at hK
    simp only [rK_ite, mno] at hK
    refine ⟨Nat.le_of_ble_eq_true rfl, ?_⟩
    by_cases cw : 0 ≤ w ∧ w ≤ 4
    · have hK2 := hK.1 cw
      refine jx_runL (o := jo_X0) (cs := cs_X0_count) (hf := jx_nh) jo_X0_ok hc_X0_count (jx_HK_nil rfl) (fun p => p == 3) 20 ?_
      simp only [jw, ju, jx_tg, Int.cast_ofNat_Int, Int.reduceAdd, Int.reduceToNat, Nat.reduceAdd, Nat.reduceMul, Nat.reduceBEq, Nat.reduceLeDiff, Int.reduceLE, Int.reduceLT, Int.reduceEq, Int.reduceNeg, Int.reduceSub, Int.reduceMul, not_false_eq_true, true_and, and_true, and_self, Bool.or_false, Bool.false_or, Bool.or_true, Bool.true_or, List.length_nil, List.length_cons, Nat.zero_le, or_true, true_or, Nat.le_refl, ↓reduceIte, Nat.reduceEqDiff, forall_const, false_and, and_false, false_implies, implies_true, not_true_eq_false, or_false, false_or, ne_eq, jd_X0_count, jf_X0, ja_sort, js_X0_refuse, cs_X0_count, jx_ck_c]
      rcases (show w = 0 ∨ w = 1 ∨ w = 2 ∨ w = 3 ∨ w = 4 by omega) with rfl | rfl | rfl | rfl | rfl
      · refine jx_s_tsI (dflt := 112) (lo := 0) (hi := 4) (offs := #[33, 38, 43, 48, 87]) (len := 33) (off := 33) (tgt := 36) (by decide +kernel) r2 (by decide) (by decide) rfl rfl ?_
        refine jx_runL (o := jo_X0) (cs := cs_X0_count) (hf := jx_nh) jo_X0_ok hc_X0_count (jx_HK_nil rfl) (fun _ => false) 20 ?_
        simp only [jw, ju, jx_tg, Int.cast_ofNat_Int, Int.reduceAdd, Int.reduceToNat, Nat.reduceAdd, Nat.reduceMul, Nat.reduceBEq, Nat.reduceLeDiff, Int.reduceLE, Int.reduceLT, Int.reduceEq, Int.reduceNeg, Int.reduceSub, Int.reduceMul, not_false_eq_true, true_and, and_true, and_self, Bool.or_false, Bool.false_or, Bool.or_true, Bool.true_or, List.length_nil, List.length_cons, Nat.zero_le, or_true, true_or, Nat.le_refl, ↓reduceIte, Nat.reduceEqDiff, forall_const, false_and, and_false, false_implies, implies_true, not_true_eq_false, or_false, false_or, ne_eq, jd_X0_count, jf_X0, r5, ja_sort, js_X0_refuse, cs_X0_count, jx_ck_c]
        exact rK_s hR (hK2.1 rfl)
      · refine jx_s_tsI (dflt := 112) (lo := 0) (hi := 4) (offs := #[33, 38, 43, 48, 87]) (len := 33) (off := 38) (tgt := 41) (by decide +kernel) r2 (by decide) (by decide) rfl rfl ?_
        refine jx_runL (o := jo_X0) (cs := cs_X0_count) (hf := jx_nh) jo_X0_ok hc_X0_count (jx_HK_nil rfl) (fun _ => false) 20 ?_
        simp only [jw, ju, jx_tg, Int.cast_ofNat_Int, Int.reduceAdd, Int.reduceToNat, Nat.reduceAdd, Nat.reduceMul, Nat.reduceBEq, Nat.reduceLeDiff, Int.reduceLE, Int.reduceLT, Int.reduceEq, Int.reduceNeg, Int.reduceSub, Int.reduceMul, not_false_eq_true, true_and, and_true, and_self, Bool.or_false, Bool.false_or, Bool.or_true, Bool.true_or, List.length_nil, List.length_cons, Nat.zero_le, or_true, true_or, Nat.le_refl, ↓reduceIte, Nat.reduceEqDiff, forall_const, false_and, and_false, false_implies, implies_true, not_true_eq_false, or_false, false_or, ne_eq, jd_X0_count, jf_X0, hR.2.1.2.1, ja_sort, js_X0_refuse, cs_X0_count, jx_ck_c]
        exact rK_s hR ((hK2.2 (by decide)).1 rfl)
      · refine jx_s_tsI (dflt := 112) (lo := 0) (hi := 4) (offs := #[33, 38, 43, 48, 87]) (len := 33) (off := 43) (tgt := 46) (by decide +kernel) r2 (by decide) (by decide) rfl rfl ?_
        refine jx_runL (o := jo_X0) (cs := cs_X0_count) (hf := jx_nh) jo_X0_ok hc_X0_count (jx_HK_nil rfl) (fun _ => false) 20 ?_
        simp only [jw, ju, jx_tg, Int.cast_ofNat_Int, Int.reduceAdd, Int.reduceToNat, Nat.reduceAdd, Nat.reduceMul, Nat.reduceBEq, Nat.reduceLeDiff, Int.reduceLE, Int.reduceLT, Int.reduceEq, Int.reduceNeg, Int.reduceSub, Int.reduceMul, not_false_eq_true, true_and, and_true, and_self, Bool.or_false, Bool.false_or, Bool.or_true, Bool.true_or, List.length_nil, List.length_cons, Nat.zero_le, or_true, true_or, Nat.le_refl, ↓reduceIte, Nat.reduceEqDiff, forall_const, false_and, and_false, false_implies, implies_true, not_true_eq_false, or_false, false_or, ne_eq, jd_X0_count, jf_X0, hR.2.2.1.2.1, ja_sort, js_X0_refuse, cs_X0_count, jx_ck_c]
        exact rK_s hR (((hK2.2 (by decide)).2 (by decide)).1 rfl)
      · refine jx_s_tsI (dflt := 112) (lo := 0) (hi := 4) (offs := #[33, 38, 43, 48, 87]) (len := 33) (off := 48) (tgt := 51) (by decide +kernel) r2 (by decide) (by decide) rfl rfl ?_
        have hK3 := (((hK2.2 (by decide)).2 (by decide)).2 (by decide)).1 rfl
        have loop : ∀ (f k : Nat), (k : Int) + f = S 0 9 → jx_V D l (yX0_count.cls, cX0_count, 4, 0, [], 5, 0, 0, yX0_count.name) Po 53 [(60, n1, x), (0, n2, 3), (0, 0, mm_sum (fun a => if S 1 a = 5 then 1 else 0) k), (0, 0, (k : Int))] [] (0, 0) g (M) := by
          intro f
          induction f with
          | zero =>
            intro k hk
            refine jx_runL (o := jo_X0) (cs := cs_X0_count) (hf := jx_nh) jo_X0_ok hc_X0_count (jx_HK_nil rfl) (fun p => p == 53) 20 ?_
            simp only [jw, ju, jx_tg, Int.cast_ofNat_Int, Int.reduceAdd, Int.reduceToNat, Nat.reduceAdd, Nat.reduceMul, Nat.reduceBEq, Nat.reduceLeDiff, Int.reduceLE, Int.reduceLT, Int.reduceEq, Int.reduceNeg, Int.reduceSub, Int.reduceMul, not_false_eq_true, true_and, and_true, and_self, Bool.or_false, Bool.false_or, Bool.or_true, Bool.true_or, List.length_nil, List.length_cons, Nat.zero_le, or_true, true_or, Nat.le_refl, ↓reduceIte, Nat.reduceEqDiff, forall_const, false_and, and_false, false_implies, implies_true, not_true_eq_false, or_false, false_or, ne_eq, jd_X0_count, jf_X0, r5, ja_sort, js_X0_refuse, cs_X0_count, jx_ck_c]
            refine ⟨by omega, fun c => ?_, fun c => by omega⟩
            rw [show (S 0 9).toNat = k by omega] at hK3
            exact rK_s hR hK3
          | succ f ih =>
            intro k hk
            have hA := hR.2.1.2.2.1 k (by omega) (by omega)
            have hk1 := hA.1
            have nx := ih (k + 1) (by omega)
            rw [show mm_sum (fun a => if S 1 a = 5 then 1 else 0) (k + 1) = mm_sum (fun a => if S 1 a = 5 then 1 else 0) k + (if S 1 k = 5 then 1 else 0) from rfl, show (((k + 1 : Nat) : Int)) = (k : Int) + 1 by omega] at nx
            refine jx_runL (o := jo_X0) (cs := cs_X0_count) (hf := jx_nh) jo_X0_ok hc_X0_count (jx_HK_nil rfl) (fun p => p == 53 || p == 88) 30 ?_
            simp only [jw, ju, jx_tg, Int.cast_ofNat_Int, Int.reduceAdd, Int.reduceToNat, Nat.reduceAdd, Nat.reduceMul, Nat.reduceBEq, Nat.reduceLeDiff, Int.reduceLE, Int.reduceLT, Int.reduceEq, Int.reduceNeg, Int.reduceSub, Int.reduceMul, not_false_eq_true, true_and, and_true, and_self, Bool.or_false, Bool.false_or, Bool.or_true, Bool.true_or, List.length_nil, List.length_cons, Nat.zero_le, or_true, true_or, Nat.le_refl, ↓reduceIte, Nat.reduceEqDiff, forall_const, false_and, and_false, false_implies, implies_true, not_true_eq_false, or_false, false_or, ne_eq, jd_X0_count, jf_X0, r5, rA_sort hA, ja_sort, js_X0_refuse, cs_X0_count, jx_ck_c]
            refine ⟨by omega, fun c => by omega, fun c => ⟨by omega, rA_k3 hA x0 (by omega), rA_k hA x0 (by omega), by omega, fun c2 => ?_, fun c2 => ?_⟩⟩
            · rw [if_neg c2] at nx; exact nx
            · rw [if_pos (by omega)] at nx; exact nx
        refine jx_runL (o := jo_X0) (cs := cs_X0_count) (hf := jx_nh) jo_X0_ok hc_X0_count (jx_HK_nil rfl) (fun p => p == 53) 20 ?_
        simp only [jw, ju, jx_tg, Int.cast_ofNat_Int, Int.reduceAdd, Int.reduceToNat, Nat.reduceAdd, Nat.reduceMul, Nat.reduceBEq, Nat.reduceLeDiff, Int.reduceLE, Int.reduceLT, Int.reduceEq, Int.reduceNeg, Int.reduceSub, Int.reduceMul, not_false_eq_true, true_and, and_true, and_self, Bool.or_false, Bool.false_or, Bool.or_true, Bool.true_or, List.length_nil, List.length_cons, Nat.zero_le, or_true, true_or, Nat.le_refl, ↓reduceIte, Nat.reduceEqDiff, forall_const, false_and, and_false, false_implies, implies_true, not_true_eq_false, or_false, false_or, ne_eq, jd_X0_count, jf_X0, ja_sort, js_X0_refuse, cs_X0_count, jx_ck_c]
        exact loop (S 0 9).toNat 0 (by omega)
      · refine jx_s_tsI (dflt := 112) (lo := 0) (hi := 4) (offs := #[33, 38, 43, 48, 87]) (len := 33) (off := 87) (tgt := 90) (by decide +kernel) r2 (by decide) (by decide) rfl rfl ?_
        have hK3 := (((hK2.2 (by decide)).2 (by decide)).2 (by decide)).2 (by decide)
        have loop : ∀ (f k : Nat), k + f = 6 → jx_V D l (yX0_count.cls, cX0_count, 4, 0, [], 5, 0, 0, yX0_count.name) Po 92 [(60, n1, x), (0, n2, 4), (0, 0, mm_sum (S 10) k), (0, 0, (k : Int))] [] (0, 0) g (M) := by
          intro f
          induction f with
          | zero =>
            intro k hk
            refine jx_runL (o := jo_X0) (cs := cs_X0_count) (hf := jx_nh) jo_X0_ok hc_X0_count (jx_HK_nil rfl) (fun p => p == 92) 20 ?_
            simp only [jw, ju, jx_tg, Int.cast_ofNat_Int, Int.reduceAdd, Int.reduceToNat, Nat.reduceAdd, Nat.reduceMul, Nat.reduceBEq, Nat.reduceLeDiff, Int.reduceLE, Int.reduceLT, Int.reduceEq, Int.reduceNeg, Int.reduceSub, Int.reduceMul, not_false_eq_true, true_and, and_true, and_self, Bool.or_false, Bool.false_or, Bool.or_true, Bool.true_or, List.length_nil, List.length_cons, Nat.zero_le, or_true, true_or, Nat.le_refl, ↓reduceIte, Nat.reduceEqDiff, forall_const, false_and, and_false, false_implies, implies_true, not_true_eq_false, or_false, false_or, ne_eq, jd_X0_count, jf_X0, ja_sort, js_X0_refuse, cs_X0_count, jx_ck_c]
            refine ⟨by omega, fun c => ?_, fun c => by omega⟩
            rw [show (6 : Nat) = k by omega] at hK3
            exact rK_s hR hK3
          | succ f ih =>
            intro k hk
            have e := hR.2.1.2.2.2.1 k (by omega) (by omega)
            have nx := ih (k + 1) (by omega)
            rw [show mm_sum (S 10) (k + 1) = mm_sum (S 10) k + S 10 k from rfl, show (((k + 1 : Nat) : Int)) = (k : Int) + 1 by omega] at nx
            refine jx_runL (o := jo_X0) (cs := cs_X0_count) (hf := jx_nh) jo_X0_ok hc_X0_count (jx_HK_nil rfl) (fun p => p == 92 || p == 113) 30 ?_
            simp only [jw, ju, jx_tg, Int.cast_ofNat_Int, Int.reduceAdd, Int.reduceToNat, Nat.reduceAdd, Nat.reduceMul, Nat.reduceBEq, Nat.reduceLeDiff, Int.reduceLE, Int.reduceLT, Int.reduceEq, Int.reduceNeg, Int.reduceSub, Int.reduceMul, not_false_eq_true, true_and, and_true, and_self, Bool.or_false, Bool.false_or, Bool.or_true, Bool.true_or, List.length_nil, List.length_cons, Nat.zero_le, or_true, true_or, Nat.le_refl, ↓reduceIte, Nat.reduceEqDiff, forall_const, false_and, and_false, false_implies, implies_true, not_true_eq_false, or_false, false_or, ne_eq, jd_X0_count, jf_X0, e, ja_sort, js_X0_refuse, cs_X0_count, jx_ck_c]
            exact ⟨by omega, fun c => by omega, fun c => ⟨by omega, nx⟩⟩
        refine jx_runL (o := jo_X0) (cs := cs_X0_count) (hf := jx_nh) jo_X0_ok hc_X0_count (jx_HK_nil rfl) (fun p => p == 92) 20 ?_
        simp only [jw, ju, jx_tg, Int.cast_ofNat_Int, Int.reduceAdd, Int.reduceToNat, Nat.reduceAdd, Nat.reduceMul, Nat.reduceBEq, Nat.reduceLeDiff, Int.reduceLE, Int.reduceLT, Int.reduceEq, Int.reduceNeg, Int.reduceSub, Int.reduceMul, not_false_eq_true, true_and, and_true, and_self, Bool.or_false, Bool.false_or, Bool.or_true, Bool.true_or, List.length_nil, List.length_cons, Nat.zero_le, or_true, true_or, Nat.le_refl, ↓reduceIte, Nat.reduceEqDiff, forall_const, false_and, and_false, false_implies, implies_true, not_true_eq_false, or_false, false_or, ne_eq, jd_X0_count, jf_X0, ja_sort, js_X0_refuse, cs_X0_count, jx_ck_c]
        exact loop 6 0 rfl
    · refine jx_runL (o := jo_X0) (cs := cs_X0_count) (hf := jx_nh) jo_X0_ok hc_X0_count (jx_HK_nil rfl) (fun p => p == 3) 20 ?_
      simp only [jw, ju, jx_tg, Int.cast_ofNat_Int, Int.reduceAdd, Int.reduceToNat, Nat.reduceAdd, Nat.reduceMul, Nat.reduceBEq, Nat.reduceLeDiff, Int.reduceLE, Int.reduceLT, Int.reduceEq, Int.reduceNeg, Int.reduceSub, Int.reduceMul, not_false_eq_true, true_and, and_true, and_self, Bool.or_false, Bool.false_or, Bool.or_true, Bool.true_or, List.length_nil, List.length_cons, Nat.zero_le, or_true, true_or, Nat.le_refl, ↓reduceIte, Nat.reduceEqDiff, forall_const, false_and, and_false, false_implies, implies_true, not_true_eq_false, or_false, false_or, ne_eq, jd_X0_count, jf_X0, ja_sort, js_X0_refuse, cs_X0_count, jx_ck_c]
      refine jx_s_tsO (dflt := 112) (lo := 0) (hi := 4) (offs := #[33, 38, 43, 48, 87]) (len := 33) (tgt := 115) (by decide +kernel) r2 (by omega) rfl ?_
      refine jx_runL (o := jo_X0) (cs := cs_X0_count) (hf := jx_nh) jo_X0_ok hc_X0_count (jx_HK_nil rfl) (fun _ => false) 20 ?_
      simp only [jw, ju, jx_tg, Int.cast_ofNat_Int, Int.reduceAdd, Int.reduceToNat, Nat.reduceAdd, Nat.reduceMul, Nat.reduceBEq, Nat.reduceLeDiff, Int.reduceLE, Int.reduceLT, Int.reduceEq, Int.reduceNeg, Int.reduceSub, Int.reduceMul, not_false_eq_true, true_and, and_true, and_self, Bool.or_false, Bool.false_or, Bool.or_true, Bool.true_or, List.length_nil, List.length_cons, Nat.zero_le, or_true, true_or, Nat.le_refl, ↓reduceIte, Nat.reduceEqDiff, forall_const, false_and, and_false, false_implies, implies_true, not_true_eq_false, or_false, false_or, ne_eq, jd_X0_count, jf_X0, ja_sort, js_X0_refuse, cs_X0_count, jx_ck_c]
      exact rK_no h9.2 (by decide) hR rFr_rf (hK.2 cw)
  · exact hS.elim
theorem jx_nc67 : Cond.not (.castable "LoopLane$Sum" "LoopLane$Put") ∈ flatC (Jvm.Cond.and given_1 narrow_1) := by decide +kernel
theorem jx_nc68 : Cond.not (.castable "LoopLane$Times" "LoopLane$Put") ∈ flatC (Jvm.Cond.and given_1 narrow_1) := by decide +kernel
theorem jx_nc69 : Cond.not (.castable "LoopLane$Over" "LoopLane$Put") ∈ flatC (Jvm.Cond.and given_1 narrow_1) := by decide +kernel
theorem jx_nc70 : Cond.not (.castable "LoopLane$Fetch" "LoopLane$Put") ∈ flatC (Jvm.Cond.and given_1 narrow_1) := by decide +kernel
theorem jx_nc71 : Cond.not (.castable "LoopLane$Store" "LoopLane$Put") ∈ flatC (Jvm.Cond.and given_1 narrow_1) := by decide +kernel
theorem jx_nc72 : Cond.not (.castable "LoopLane$Pick" "LoopLane$Put") ∈ flatC (Jvm.Cond.and given_1 narrow_1) := by decide +kernel
def js_X0_number : jx_Sp := fun as g M Po => match as with
  | [(60, _, x), (0, _, a)] => ∃ S, (rR x S g M ∧ mW S ∧ jx_r a) ∧ rK x g M Po 1 (f_number a S).1 (f_number a S).2
  | _ => False
def cs_X0_number : jx_Cs := [(1278, 2, 0, 0, js_X0_isAct), (1161, 2, 0, 0, js_X0_refuse)]
theorem hc_X0_number {D : jx_D} {l : Launch} : jx_CsOK D l "LoopLane" 5 cs_X0_number := List.forall_mem_cons.mpr ⟨jc_X0_426 (jt_X0_isAct l) (fun as g M Po (h : js_X0_isAct as g M Po) => by unfold js_X0_isAct at h; split at h <;> first | exact h.elim | exact ⟨_, _, _, rfl, rfl⟩) (by decide), List.forall_mem_cons.mpr ⟨jc_X0_387 (jt_X0_refuse l) (fun as g M Po (h : js_X0_refuse as g M Po) => by unfold js_X0_refuse at h; split at h <;> first | exact h.elim | exact ⟨_, _, _, rfl, rfl⟩) (by decide), fun _ h => absurd h List.not_mem_nil⟩⟩
abbrev th_X0_number : List (Nat × Nat × Nat × Nat) := [(17, 31, 32, 191)]
theorem jh_X0_number : jx_hf th_X0_number 2 1 = none ∧ jx_hf th_X0_number 2 2 = none ∧ jx_hf th_X0_number 2 3 = none ∧ jx_hf th_X0_number 2 4 = none ∧ jx_hf th_X0_number 2 5 = none ∧ jx_hf th_X0_number 2 6 = none ∧ jx_hf th_X0_number 11 1 = none ∧ jx_hf th_X0_number 11 2 = none ∧ jx_hf th_X0_number 11 3 = none ∧ jx_hf th_X0_number 11 4 = none ∧ jx_hf th_X0_number 11 5 = none ∧ jx_hf th_X0_number 11 6 = none ∧ jx_hf th_X0_number 36 1 = none ∧ jx_hf th_X0_number 36 2 = none ∧ jx_hf th_X0_number 36 3 = none ∧ jx_hf th_X0_number 36 4 = none ∧ jx_hf th_X0_number 36 5 = none ∧ jx_hf th_X0_number 36 6 = none := by refine ⟨?_, ?_, ?_, ?_, ?_, ?_, ?_, ?_, ?_, ?_, ?_, ?_, ?_, ?_, ?_, ?_, ?_, ?_⟩ <;> rfl
theorem jk_X0_number : ∀ q ∈ th_X0_number, jx_ct q.2.2.2 := by unfold th_X0_number; simp [jx_ct]
set_option maxHeartbeats 4000000 in
theorem jt_X0_number (l : Launch) : jx_Ct l yX0_number (wsW_ yX0_number cX0_number 3 (some .long) th_X0_number) 5 3 2000 js_X0_number := by
  refine jx_Ct_w (rc := 1) (by decide) rfl (fun D as g M Po hS => ?_)
  unfold js_X0_number at hS
  split at hS
  · rename_i n1 x n2 a
    obtain ⟨S, ⟨hR, hW, ra⟩, hK⟩ := hS
    have hB := hW.1
    have h9 := hB.1
    have x0 := hR.1.1
    have r5 := hR.2.1.1
    unfold f_number mm_isa at hK
    simp only [rK_ite, mno] at hK
    refine ⟨Nat.le_of_ble_eq_true rfl, ?_⟩
    refine jx_runL (o := jo_X0) (cs := cs_X0_number) (hf := jx_hf th_X0_number) jo_X0_ok hc_X0_number (jx_HK_LL rfl jk_X0_number) (fun p => p == 23) 30 ?_
    simp only [jw, ju, jx_tg, Int.cast_ofNat_Int, Int.reduceAdd, Int.reduceToNat, Nat.reduceAdd, Nat.reduceMul, Nat.reduceBEq, Nat.reduceLeDiff, Int.reduceLE, Int.reduceLT, Int.reduceEq, Int.reduceNeg, Int.reduceSub, Int.reduceMul, not_false_eq_true, true_and, and_true, and_self, Bool.or_false, Bool.false_or, Bool.or_true, Bool.true_or, List.length_nil, List.length_cons, Nat.zero_le, or_true, true_or, Nat.le_refl, ↓reduceIte, Nat.reduceEqDiff, forall_const, false_and, and_false, false_implies, implies_true, not_true_eq_false, or_false, false_or, ne_eq, jd_X0_number, jf_X0, r5, js_X0_isAct, js_X0_refuse, cs_X0_number, jx_ck_c, jh_X0_number, jx_ex]
    refine ⟨⟨ra, by omega⟩, fun c => ?_, fun c => rK_no h9.2 (by decide) hR rFr_rf (hK.2 c)⟩
    have hA := hR.2.1.2.2.1 a c.1 c.2
    have k3 := rA_k3 hA x0 c.1
    have hA1 := hA.1
    have hA3 := hA.2.2.1
    refine ⟨by omega, k3, ?_⟩
    have hK2 := hK.1 c
    have fail : S 1 a ≠ 0 → jx_V D l (yX0_number.cls, cX0_number, 3, 1, th_X0_number, 5, 3, 2000, yX0_number.name) Po 32 [(60, n1, x), (0, n2, a), (5, 0, 0)] [jx_ex 2 ((g.1 : Int) + 2)] (3, 2000) (g.1 + 3, g.2) M := by
      intro w
      refine jx_runL (o := jo_X0) (cs := cs_X0_number) (hf := jx_hf th_X0_number) jo_X0_ok hc_X0_number (jx_HK_LL rfl jk_X0_number) (fun _ => false) 20 ?_
      simp only [jw, ju, jx_tg, Int.cast_ofNat_Int, Int.reduceAdd, Int.reduceToNat, Nat.reduceAdd, Nat.reduceMul, Nat.reduceBEq, Nat.reduceLeDiff, Int.reduceLE, Int.reduceLT, Int.reduceEq, Int.reduceNeg, Int.reduceSub, Int.reduceMul, not_false_eq_true, true_and, and_true, and_self, Bool.or_false, Bool.false_or, Bool.or_true, Bool.true_or, List.length_nil, List.length_cons, Nat.zero_le, or_true, true_or, Nat.le_refl, ↓reduceIte, Nat.reduceEqDiff, forall_const, false_and, and_false, false_implies, implies_true, not_true_eq_false, or_false, false_or, ne_eq, jd_X0_number, jf_X0, js_X0_isAct, js_X0_refuse, cs_X0_number, jx_ck_c, jh_X0_number, jx_ex]
      exact rK_no h9.2 (by decide) (rR_g h9.2 hR rG_add) ⟨rG_add, fun _ _ _ => rfl⟩ (hK2.2 w)
    rcases (show (g.2 (M (x + 13) a)).1 = 66 ∨ (g.2 (M (x + 13) a)).1 = 67 ∨ (g.2 (M (x + 13) a)).1 = 68 ∨ (g.2 (M (x + 13) a)).1 = 69 ∨ (g.2 (M (x + 13) a)).1 = 70 ∨ (g.2 (M (x + 13) a)).1 = 71 ∨ (g.2 (M (x + 13) a)).1 = 72 by omega) with w | w | w | w | w | w | w
    · have s0 : S 1 a = 0 := by omega
      refine jx_s_castY (nm := "LoopLane$Put") (k := 66) (n := 0) (by decide +kernel) q136 (by decide) (Prod.ext w hA3.2) (by decide) (by decide) (by decide) (.inl ⟨_, rfl, rfl⟩) ?_
      refine jx_runL (o := jo_X0) (cs := cs_X0_number) (hf := jx_hf th_X0_number) jo_X0_ok hc_X0_number (jx_HK_LL rfl jk_X0_number) (fun _ => false) 20 ?_
      simp only [jw, ju, jx_tg, Int.cast_ofNat_Int, Int.reduceAdd, Int.reduceToNat, Nat.reduceAdd, Nat.reduceMul, Nat.reduceBEq, Nat.reduceLeDiff, Int.reduceLE, Int.reduceLT, Int.reduceEq, Int.reduceNeg, Int.reduceSub, Int.reduceMul, not_false_eq_true, true_and, and_true, and_self, Bool.or_false, Bool.false_or, Bool.or_true, Bool.true_or, List.length_nil, List.length_cons, Nat.zero_le, or_true, true_or, Nat.le_refl, ↓reduceIte, Nat.reduceEqDiff, forall_const, false_and, and_false, false_implies, implies_true, not_true_eq_false, or_false, false_or, ne_eq, jd_X0_number, jf_X0, hA.2.2.2.2.2.2.2.2.2.1 s0, js_X0_isAct, js_X0_refuse, cs_X0_number, jx_ck_c, jh_X0_number, jx_ex]
      exact rK_s hR (hK2.1 s0)
    · refine jx_s_msg (x := 2) (hf := jx_hf th_X0_number) (jx_HK_LL rfl jk_X0_number) jx_xg2 (jx_t_cast (n1 := "LoopLane$Sum") (n2 := "LoopLane$Put") (k := 67) (n := 0) (by decide +kernel) q136 (by decide) (Prod.ext w hA3.2) (by decide) (.inl ⟨_, rfl, rfl⟩) jx_nc67 (by decide +kernel) (by decide +kernel) (by decide) (by decide)) (by simp) ⟨by decide, by decide⟩ ?_
      exact fail (by omega)
    · refine jx_s_msg (x := 2) (hf := jx_hf th_X0_number) (jx_HK_LL rfl jk_X0_number) jx_xg2 (jx_t_cast (n1 := "LoopLane$Times") (n2 := "LoopLane$Put") (k := 68) (n := 0) (by decide +kernel) q136 (by decide) (Prod.ext w hA3.2) (by decide) (.inl ⟨_, rfl, rfl⟩) jx_nc68 (by decide +kernel) (by decide +kernel) (by decide) (by decide)) (by simp) ⟨by decide, by decide⟩ ?_
      exact fail (by omega)
    · refine jx_s_msg (x := 2) (hf := jx_hf th_X0_number) (jx_HK_LL rfl jk_X0_number) jx_xg2 (jx_t_cast (n1 := "LoopLane$Over") (n2 := "LoopLane$Put") (k := 69) (n := 0) (by decide +kernel) q136 (by decide) (Prod.ext w hA3.2) (by decide) (.inl ⟨_, rfl, rfl⟩) jx_nc69 (by decide +kernel) (by decide +kernel) (by decide) (by decide)) (by simp) ⟨by decide, by decide⟩ ?_
      exact fail (by omega)
    · refine jx_s_msg (x := 2) (hf := jx_hf th_X0_number) (jx_HK_LL rfl jk_X0_number) jx_xg2 (jx_t_cast (n1 := "LoopLane$Fetch") (n2 := "LoopLane$Put") (k := 70) (n := 0) (by decide +kernel) q136 (by decide) (Prod.ext w hA3.2) (by decide) (.inl ⟨_, rfl, rfl⟩) jx_nc70 (by decide +kernel) (by decide +kernel) (by decide) (by decide)) (by simp) ⟨by decide, by decide⟩ ?_
      exact fail (by omega)
    · refine jx_s_msg (x := 2) (hf := jx_hf th_X0_number) (jx_HK_LL rfl jk_X0_number) jx_xg2 (jx_t_cast (n1 := "LoopLane$Store") (n2 := "LoopLane$Put") (k := 71) (n := 0) (by decide +kernel) q136 (by decide) (Prod.ext w hA3.2) (by decide) (.inl ⟨_, rfl, rfl⟩) jx_nc71 (by decide +kernel) (by decide +kernel) (by decide) (by decide)) (by simp) ⟨by decide, by decide⟩ ?_
      exact fail (by omega)
    · refine jx_s_msg (x := 2) (hf := jx_hf th_X0_number) (jx_HK_LL rfl jk_X0_number) jx_xg2 (jx_t_cast (n1 := "LoopLane$Pick") (n2 := "LoopLane$Put") (k := 72) (n := 0) (by decide +kernel) q136 (by decide) (Prod.ext w hA3.2) (by decide) (.inl ⟨_, rfl, rfl⟩) jx_nc72 (by decide +kernel) (by decide +kernel) (by decide) (by decide)) (by simp) ⟨by decide, by decide⟩ ?_
      exact fail (by omega)
  · exact hS.elim
def js_X0_again : jx_Sp := fun as g M Po => match as with
  | [(60, _, x)] => ∃ S, (rR x S g M ∧ mW S) ∧ rK x g M Po 0 (f_again S).1 (f_again S).2
  | _ => False
abbrev th_X0_again : List (Nat × Nat × Nat × Nat) := [(10, 12, 12, 315), (10, 12, 18, 189)]
theorem jh_X0_again : jx_hf th_X0_again 0 1 = jx_hf th_X0_again 0 1 ∧ jx_hf th_X0_again 0 1 = jx_hf th_X0_again 0 1 := by refine ⟨?_, ?_⟩ <;> rfl
theorem jk_X0_again : ∀ q ∈ th_X0_again, jx_ct q.2.2.2 := by unfold th_X0_again; simp [jx_ct]
set_option maxHeartbeats 4000000 in
theorem jt_X0_again (l : Launch) : jx_Ct l yX0_again (wsW_ yX0_again cX0_again 3 (some .int) th_X0_again) 5 3 2000 js_X0_again := by
  refine jx_Ct_w (rc := 0) (by decide) rfl (fun D as g M Po hS => ?_)
  unfold js_X0_again at hS
  split at hS
  · rename_i n1 x
    obtain ⟨S, ⟨hR, hW⟩, hK⟩ := hS
    have hB := hW.1
    have h9 := hB.1
    have x0 := hR.1.1
    have r5 := hR.2.1.1
    unfold f_again at hK
    simp only [rK_ite, mno] at hK
    refine ⟨Nat.le_of_ble_eq_true rfl, ?_⟩
    have w26 := hW.2.2.2.2.1
    have r2 := hR.2.2.2.2.2.1.2.1
    have upd : rR x (jx_u S 0 26 0) g (jx_u M x 2 (-1)) := by
      have z : mZ S (jx_u S 0 26 0) := mZ_0 mZ_rf (by decide)
      have sr : ∀ j, j ≠ 0 → jx_u S 0 26 0 j = S j := fun j h => jx_u_row h
      have s0 : ∀ k, k ≠ 26 → jx_u S 0 26 0 0 k = S 0 k := fun k h => jx_u_j _ _ _ _ _ _ h
      have mz : ∀ z k, ¬ (z = x ∧ k = 2) → jx_u M x 2 (-1) z k = M z k := fun z k h => if_neg h
      refine ⟨hR.1, rBd_c (by rw [z.2.1]; exact h9.2) (rBd_Z z hR.2.1) (fun z k w => mz z k (by unfold qBd at w; omega)), rEd_c (rEd_Z z hR.2.2.1) (fun z k w => mz z k (by unfold qEd at w; omega)), rLd_S (rLd_c hR.2.2.2.1 (fun z k w => mz z k (by unfold qLd at w; omega))) (s0 _ (by decide)) (s0 _ (by decide)) (sr _ (by decide)) (sr _ (by decide)) (sr _ (by decide)), rRs_S (rRs_c hR.2.2.2.2.1 (fun z k w => mz z k (by unfold qRs at w; omega))) (fun k k0 k1 => s0 k (by omega)) (s0 _ (by decide)) (sr _ (by decide)), ?_, rSl_S (rSl_c hR.2.2.2.2.2.2 (fun z k w => mz z k (by unfold qSl at w; omega))) (sr _ (by decide)) (sr _ (by decide)) (sr _ (by decide))⟩
      obtain ⟨m1, m2, m3, m4, m5⟩ := hR.2.2.2.2.2.1
      refine ⟨by rw [mz _ _ (by omega), s0 _ (by decide)]; exact m1, by rw [jx_u_eq, jx_u_eq, if_pos rfl], fun k k0 k1 => by rw [mz _ _ (by omega), sr 23 (by decide)]; exact m3 k k0 k1, fun k k0 k1 => by rw [mz _ _ (by omega), sr 31 (by decide)]; exact m4 k k0 k1, fun k k0 k1 => by rw [mz _ _ (by omega)]; exact m5 k k0 k1⟩
    have fr : rFr x g M g (jx_u M x 2 (-1)) := rFr_u rFr_rf (by omega)
    by_cases c : S 0 26 = 0
    · rw [if_pos c] at r2
      refine jx_runL (o := jo_X0) (cs := []) (hf := jx_hf th_X0_again) jo_X0_ok jx_cs0 (jx_HK_LL rfl jk_X0_again) (fun p => p == 11) 20 ?_
      simp only [jw, ju, jx_tg, Int.cast_ofNat_Int, Int.reduceAdd, Int.reduceToNat, Nat.reduceAdd, Nat.reduceMul, Nat.reduceBEq, Nat.reduceLeDiff, Int.reduceLE, Int.reduceLT, Int.reduceEq, Int.reduceNeg, Int.reduceSub, Int.reduceMul, not_false_eq_true, true_and, and_true, and_self, Bool.or_false, Bool.false_or, Bool.or_true, Bool.true_or, List.length_nil, List.length_cons, Nat.zero_le, or_true, true_or, Nat.le_refl, ↓reduceIte, Nat.reduceEqDiff, forall_const, false_and, and_false, false_implies, implies_true, not_true_eq_false, or_false, false_or, ne_eq, jd_X0_again, jf_X0, r2, jh_X0_again, jx_ex]
      refine jx_s_npe (hf := jx_hf th_X0_again) (jx_HK_LL rfl jk_X0_again) (jx_t_athrow (by decide +kernel) (by decide)) (by decide) ⟨by decide, by decide⟩ ?_
      show jx_V D l (yX0_again.cls, cX0_again, 3, 0, th_X0_again, 5, 3, 2000, yX0_again.name) Po 18 _ [jx_ex 1 _] _ _ _
      refine jx_runL (o := jo_X0) (cs := []) (hf := jx_hf th_X0_again) jo_X0_ok jx_cs0 (jx_HK_LL rfl jk_X0_again) (fun _ => false) 20 ?_
      simp only [jw, ju, jx_tg, Int.cast_ofNat_Int, Int.reduceAdd, Int.reduceToNat, Nat.reduceAdd, Nat.reduceMul, Nat.reduceBEq, Nat.reduceLeDiff, Int.reduceLE, Int.reduceLT, Int.reduceEq, Int.reduceNeg, Int.reduceSub, Int.reduceMul, not_false_eq_true, true_and, and_true, and_self, Bool.or_false, Bool.false_or, Bool.or_true, Bool.true_or, List.length_nil, List.length_cons, Nat.zero_le, or_true, true_or, Nat.le_refl, ↓reduceIte, Nat.reduceEqDiff, forall_const, false_and, and_false, false_implies, implies_true, not_true_eq_false, or_false, false_or, ne_eq, jd_X0_again, jf_X0, jh_X0_again, jx_ex]
      rw [jx_u_same r2]
      exact hK.1 c _ _ (rR_g h9.2 hR rG_add) ⟨rG_add, fun _ _ _ => rfl⟩
    · rw [if_neg c] at r2
      have hz := hR.1.2.1.2 (-(S 0 26)) (by omega) (by omega)
      have e6 := upd.2.2.2.2.2.1.2.2.2.2 (-(S 0 26)) (by omega) (by omega)
      rw [show x + 49 + -(S 0 26) = x + 49 - S 0 26 by omega] at hz e6
      refine jx_runL (o := jo_X0) (cs := []) (hf := jx_hf th_X0_again) jo_X0_ok jx_cs0 (jx_HK_LL rfl jk_X0_again) (fun p => p == 11) 20 ?_
      simp only [jw, ju, jx_tg, Int.cast_ofNat_Int, Int.reduceAdd, Int.reduceToNat, Nat.reduceAdd, Nat.reduceMul, Nat.reduceBEq, Nat.reduceLeDiff, Int.reduceLE, Int.reduceLT, Int.reduceEq, Int.reduceNeg, Int.reduceSub, Int.reduceMul, not_false_eq_true, true_and, and_true, and_self, Bool.or_false, Bool.false_or, Bool.or_true, Bool.true_or, List.length_nil, List.length_cons, Nat.zero_le, or_true, true_or, Nat.le_refl, ↓reduceIte, Nat.reduceEqDiff, forall_const, false_and, and_false, false_implies, implies_true, not_true_eq_false, or_false, false_or, ne_eq, jd_X0_again, jf_X0, r2, jh_X0_again, jx_ex]
      refine jx_s_athrow (hf := jx_hf th_X0_again) (jx_HK_LL rfl jk_X0_again) (by decide +kernel) (by decide) hz ?_
      show jx_V D l (yX0_again.cls, cX0_again, 3, 0, th_X0_again, 5, 3, 2000, yX0_again.name) Po 12 _ [jx_ex 6 _] _ _ _
      refine jx_runL (o := jo_X0) (cs := []) (hf := jx_hf th_X0_again) jo_X0_ok jx_cs0 (jx_HK_LL rfl jk_X0_again) (fun _ => false) 20 ?_
      simp only [jw, ju, jx_tg, Int.cast_ofNat_Int, Int.reduceAdd, Int.reduceToNat, Nat.reduceAdd, Nat.reduceMul, Nat.reduceBEq, Nat.reduceLeDiff, Int.reduceLE, Int.reduceLT, Int.reduceEq, Int.reduceNeg, Int.reduceSub, Int.reduceMul, not_false_eq_true, true_and, and_true, and_self, Bool.or_false, Bool.false_or, Bool.or_true, Bool.true_or, List.length_nil, List.length_cons, Nat.zero_le, or_true, true_or, Nat.le_refl, ↓reduceIte, Nat.reduceEqDiff, forall_const, false_and, and_false, false_implies, implies_true, not_true_eq_false, or_false, false_or, ne_eq, jd_X0_again, jf_X0, e6, jh_X0_again, jx_ex]
      rw [show - -S 0 26 = S 0 26 by omega]
      exact hK.2 c _ _ upd fr
  · exact hS.elim
