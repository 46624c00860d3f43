/-! the acts' work in two: what is not refused takes no cell; what is refused takes one throw's cells -/
set_option maxRecDepth 100000
def js_X1_longsY : jx_Sp := fun as g M Po => match as with
  | [(61, _, x), (0, _, s)] => (0 ≤ s ∧ s < 8) ∧ 0 ≤ M (x + 2 + s) 0 ∧ ∃ n, g.2 (M (x + 2 + s) 0) = (11, n) ∧ Po (11, n, M (x + 2 + s) 0) g M
  | _ => False
set_option maxHeartbeats 4000000 in
theorem jt_X1_longsY (l : Launch) : jx_Ct l yX1_longs (ws_ yX1_longs cX1_longs 4 (Option.some (Jvm.ClassFile.FieldType.array Jvm.ClassFile.FieldType.long))) 0 0 0 js_X1_longsY := by
  refine jx_Ct_c (rc := 2) (by decide) (by simp [jx_rt, FieldType.isReference]) (fun D as g M Po hS => ?_)
  unfold js_X1_longsY at hS
  split at hS
  · rename_i n1 x n2 s
    obtain ⟨c, hz, n, hg, hP⟩ := hS
    refine ⟨Nat.le_of_ble_eq_true rfl, ?_⟩
    refine jx_runL (o := jo_X1) (cs := []) (hf := jx_nh) jo_X1_ok jx_cs0 (jx_HK_nil rfl) (fun p => p == 9) 20 ?_
    simp only [jw, ju, jx_tg, Int.cast_ofNat_Int, Int.reduceAdd, Int.reduceToNat, Nat.reduceAdd, Nat.reduceMul, Nat.reduceBEq, Nat.reduceLeDiff, Int.reduceLE, Int.reduceLT, Int.reduceEq, Int.reduceNeg, Int.reduceSub, Int.reduceMul, not_false_eq_true, true_and, and_true, and_self, Bool.or_false, Bool.false_or, Bool.or_true, Bool.true_or, List.length_nil, List.length_cons, Nat.zero_le, or_true, true_or, Nat.le_refl, ↓reduceIte, Nat.reduceEqDiff, forall_const, false_and, and_false, false_implies, implies_true, not_true_eq_false, or_false, false_or, ne_eq, jd_X1_longs, jf_X1]
    refine ⟨c, ?_⟩
    rw [show x + 1 + (1 + s) = x + 2 + s by omega]
    refine jx_s_castY (nm := "[J") (k := 11) (n := n) (by decide +kernel) q852 (by decide) hg (by decide) (by decide) (by decide) (.inr ⟨.long, rfl, by decide +kernel⟩) ?_
    refine jx_runL (o := jo_X1) (cs := []) (hf := jx_nh) jo_X1_ok jx_cs0 (jx_HK_nil rfl) (fun _ => false) 20 ?_
    simp only [jw, ju, jx_tg, Int.cast_ofNat_Int, Int.reduceAdd, Int.reduceToNat, Nat.reduceAdd, Nat.reduceMul, Nat.reduceBEq, Nat.reduceLeDiff, Int.reduceLE, Int.reduceLT, Int.reduceEq, Int.reduceNeg, Int.reduceSub, Int.reduceMul, not_false_eq_true, true_and, and_true, and_self, Bool.or_false, Bool.false_or, Bool.or_true, Bool.true_or, List.length_nil, List.length_cons, Nat.zero_le, or_true, true_or, Nat.le_refl, ↓reduceIte, Nat.reduceEqDiff, forall_const, false_and, and_false, false_implies, implies_true, not_true_eq_false, or_false, false_or, ne_eq, jd_X1_longs, jf_X1]
    exact hP
  · exact hS.elim
/-- the row that an act of a row works on, and its place -/
def xw_z (M : jx_M) (x a : Int) : Int := M (x + 2 + M a 7) 0
def js_X10_workY : jx_Sp := fun as g M Po => match as with
  | [(81, _, a), (61, _, x), (1, _, p), (1, _, _), (1, _, _)] => (0 ≤ M a 7 ∧ M a 7 < 8) ∧ 0 ≤ xw_z M x a ∧ ∃ n, g.2 (xw_z M x a) = (11, n) ∧ (0 ≤ f_place p ∧ f_place p < n) ∧ Po (1, 0, M (xw_z M x a) (f_place p)) g M
  | _ => False
def cs_X10_workY : jx_Cs := [(45, 2, 0, 0, js_X1_longsY), (64, 1, 0, 0, js_X10_place)]
theorem hc_X10_workY {D : jx_D} {l : Launch} : jx_CsOK D l "LoopLane$Fetch" 1 cs_X10_workY := List.forall_mem_cons.mpr ⟨jc_X10_15 (jt_X1_longsY l) (fun as g M Po (h : js_X1_longsY as g M Po) => by unfold js_X1_longsY at h; split at h <;> first | exact h.elim | exact ⟨_, _, _, rfl, rfl⟩) (by decide), List.forall_mem_cons.mpr ⟨jc_X10_21 (jt_X10_place l) (fun as g M Po (h : js_X10_place as g M Po) => by unfold js_X10_place at h; split at h <;> first | exact h.elim | exact rfl) (by decide), fun _ h => absurd h List.not_mem_nil⟩⟩
set_option maxHeartbeats 4000000 in
theorem jt_X10_workY (l : Launch) : jx_Ct l yX10_work (ws_ yX10_work cX10_work 8 (some .long)) 1 0 0 js_X10_workY := by
  refine jx_Ct_c (rc := 1) (by decide) rfl (fun D as g M Po hS => ?_)
  unfold js_X10_workY at hS
  split at hS
  · rename_i n1 a n2 x n3 p n4 q n5 r
    obtain ⟨hs, hz, n, hg, c, hP⟩ := hS
    unfold xw_z at hz hg hP
    refine ⟨Nat.le_of_ble_eq_true rfl, ?_⟩
    refine jx_runL (o := jo_X10) (cs := cs_X10_workY) (hf := jx_nh) jo_X10_ok hc_X10_workY (jx_HK_nil rfl) (fun _ => false) 20 ?_
    simp only [jw, ju, jx_tg, Int.cast_ofNat_Int, Int.reduceAdd, Int.reduceToNat, Nat.reduceAdd, Nat.reduceMul, Nat.reduceBEq, Nat.reduceLeDiff, Int.reduceLE, Int.reduceLT, Int.reduceEq, Int.reduceNeg, Int.reduceSub, Int.reduceMul, not_false_eq_true, true_and, and_true, and_self, Bool.or_false, Bool.false_or, Bool.or_true, Bool.true_or, List.length_nil, List.length_cons, Nat.zero_le, or_true, true_or, Nat.le_refl, ↓reduceIte, Nat.reduceEqDiff, forall_const, false_and, and_false, false_implies, implies_true, not_true_eq_false, or_false, false_or, ne_eq, jd_X10_work, jf_X10, js_X10_place, js_X1_longsY, cs_X10_workY, jx_ck_c]
    exact ⟨hs, hz, n, hg, c, hP⟩
  · exact hS.elim
def xw_no (g : jx_S) (M : jx_M) (x a p : Int) (Po : jx_Po) : Prop := (xw_z M x a < 0 → Po (4, 1, (g.1 : Int)) (g.1 + 1, g.2) M) ∧
      (0 ≤ xw_z M x a → (∃ n, g.2 (xw_z M x a) = (11, n) ∧ ¬ (0 ≤ f_place p ∧ f_place p < n) ∧ Po (4, 3, (g.1 : Int) + 2) (g.1 + 3, g.2) M) ∨ (∃ n, g.2 (xw_z M x a) = (10, n) ∧ Po (4, 2, (g.1 : Int) + 2) (g.1 + 3, g.2) M))
def js_X10_workN : jx_Sp := fun as g M Po => match as with
  | [(81, _, a), (61, _, x), (1, _, p), (1, _, _), (1, _, _)] => (0 ≤ M a 7 ∧ M a 7 < 8) ∧ xw_no g M x a p Po
  | _ => False
def cs_X10_workN : jx_Cs := [(45, 2, 3, 2000, js_X1_longs), (64, 1, 0, 0, js_X10_place)]
theorem hc_X10_workN {D : jx_D} {l : Launch} : jx_CsOK D l "LoopLane$Fetch" 1 cs_X10_workN := List.forall_mem_cons.mpr ⟨jc_X10_15 (jt_X1_longs l) (fun as g M Po (h : js_X1_longs as g M Po) => by unfold js_X1_longs at h; split at h <;> first | exact h.elim | exact ⟨_, _, _, rfl, rfl⟩) (by decide), List.forall_mem_cons.mpr ⟨jc_X10_21 (jt_X10_place l) (fun as g M Po (h : js_X10_place as g M Po) => by unfold js_X10_place at h; split at h <;> first | exact h.elim | exact rfl) (by decide), fun _ h => absurd h List.not_mem_nil⟩⟩
set_option maxHeartbeats 4000000 in
theorem jt_X10_workN (l : Launch) : jx_Ct l yX10_work (ws_ yX10_work cX10_work 8 (some .long)) 1 3 2000 js_X10_workN := by
  refine jx_Ct_c (rc := 1) (by decide) rfl (fun D as g M Po hS => ?_)
  unfold js_X10_workN at hS
  split at hS
  · rename_i n1 a n2 x n3 p n4 q n5 r
    obtain ⟨hs, hN, hY⟩ := hS
    unfold xw_z at hN hY
    refine ⟨Nat.le_of_ble_eq_true rfl, ?_⟩
    have viaLongs : ((∃ n, g.2 (M (x + 2 + M a 7) 0) = (10, n) ∧ Po (4, 2, (g.1 : Int) + 2) (g.1 + 3, g.2) M) ∨ M (x + 2 + M a 7) 0 < 0) → jx_V D l (yX10_work.cls, cX10_work, 8, 1, [], 1, 3, 2000, yX10_work.name) Po 0 [(81, n1, a), (61, n2, x), (1, n3, p), (5, 0, 0), (1, n4, q), (5, 0, 0), (1, n5, r), (5, 0, 0)] [] (0, 0) g (M) := by
      intro hh
      refine jx_runL (o := jo_X10) (cs := cs_X10_workN) (hf := jx_nh) jo_X10_ok hc_X10_workN (jx_HK_nil rfl) (fun p => p == 12) 20 ?_
      simp only [jw, ju, jx_tg, Int.cast_ofNat_Int, Int.reduceAdd, Int.reduceToNat, Nat.reduceAdd, Nat.reduceMul, Nat.reduceBEq, Nat.reduceLeDiff, Int.reduceLE, Int.reduceLT, Int.reduceEq, Int.reduceNeg, Int.reduceSub, Int.reduceMul, not_false_eq_true, true_and, and_true, and_self, Bool.or_false, Bool.false_or, Bool.or_true, Bool.true_or, List.length_nil, List.length_cons, Nat.zero_le, or_true, true_or, Nat.le_refl, ↓reduceIte, Nat.reduceEqDiff, forall_const, false_and, and_false, false_implies, implies_true, not_true_eq_false, or_false, false_or, ne_eq, jd_X10_work, jf_X10, js_X10_place, js_X1_longs, cs_X10_workN, jx_ck_c]
      refine ⟨⟨by omega, by omega⟩, fun w => absurd hs w, fun _ _ => ⟨hN, fun hz => ?_⟩⟩
      rcases hh with h | h
      · exact .inr h
      · omega
    by_cases hz : M (x + 2 + M a 7) 0 < 0
    · exact viaLongs (.inr hz)
    · rcases hY (by omega) with ⟨n, hg, c, hP⟩ | h
      · refine jx_runL (o := jo_X10) (cs := cs_X10_workY) (hf := jx_nh) jo_X10_ok hc_X10_workY (jx_HK_nil rfl) (fun p => p == 12) 20 ?_
        simp only [jw, ju, jx_tg, Int.cast_ofNat_Int, Int.reduceAdd, Int.reduceToNat, Nat.reduceAdd, Nat.reduceMul, Nat.reduceBEq, Nat.reduceLeDiff, Int.reduceLE, Int.reduceLT, Int.reduceEq, Int.reduceNeg, Int.reduceSub, Int.reduceMul, not_false_eq_true, true_and, and_true, and_self, Bool.or_false, Bool.false_or, Bool.or_true, Bool.true_or, List.length_nil, List.length_cons, Nat.zero_le, or_true, true_or, Nat.le_refl, ↓reduceIte, Nat.reduceEqDiff, forall_const, false_and, and_false, false_implies, implies_true, not_true_eq_false, or_false, false_or, ne_eq, jd_X10_work, jf_X10, js_X1_longsY, js_X10_place, cs_X10_workY, jx_ck_c]
        refine ⟨hs, by omega, n, hg, ?_⟩
        have rp : jx_r (f_place p) := by
          unfold f_place
          split <;> exact ⟨by omega, by omega⟩
        refine jx_s_msg (x := 3) (hf := jx_nh) (jx_HK_nil rfl) jx_xg3 (jx_t_laload (by decide +kernel) rp c) (by decide) ⟨by decide, by decide⟩ ?_
        exact hP
      · exact viaLongs (.inl h)
  · exact hS.elim
def js_X9_workY : jx_Sp := fun as g M Po => match as with
  | [(69, _, _), (61, _, _), (1, _, p), (1, _, q), (1, _, _)] => q ≠ 0 ∧ Po (1, 0, jx_ldiv p q) g M
  | _ => False
set_option maxHeartbeats 4000000 in
theorem jt_X9_workY (l : Launch) : jx_Ct l yX9_work (ws_ yX9_work cX9_work 8 (some .long)) 0 0 0 js_X9_workY := by
  refine jx_Ct_c (rc := 1) (by decide) rfl (fun D as g M Po hS => ?_)
  unfold js_X9_workY at hS
  split at hS
  · refine ⟨Nat.le_of_ble_eq_true rfl, ?_⟩
    refine jx_runL (o := jo_X9) (cs := []) (hf := jx_nh) jo_X9_ok jx_cs0 (jx_HK_nil rfl) (fun _ => false) 20 ?_
    simp only [jw, ju, jx_tg, Int.cast_ofNat_Int, Int.reduceAdd, Int.reduceToNat, Nat.reduceAdd, Nat.reduceMul, Nat.reduceBEq, Nat.reduceLeDiff, Int.reduceLE, Int.reduceLT, Int.reduceEq, Int.reduceNeg, Int.reduceSub, Int.reduceMul, not_false_eq_true, true_and, and_true, and_self, Bool.or_false, Bool.false_or, Bool.or_true, Bool.true_or, List.length_nil, List.length_cons, Nat.zero_le, or_true, true_or, Nat.le_refl, ↓reduceIte, Nat.reduceEqDiff, forall_const, false_and, and_false, false_implies, implies_true, not_true_eq_false, or_false, false_or, ne_eq, jd_X9_work]
    exact hS
  · exact hS.elim
def js_X9_workN : jx_Sp := fun as g M Po => match as with
  | [(69, _, _), (61, _, _), (1, _, p), (1, _, q), (1, _, _)] => q = 0 ∧ Po (4, 4, (g.1 : Int) + 2) (g.1 + 3, g.2) M
  | _ => False
set_option maxHeartbeats 4000000 in
theorem jt_X9_workN (l : Launch) : jx_Ct l yX9_work (ws_ yX9_work cX9_work 8 (some .long)) 0 3 2000 js_X9_workN := by
  refine jx_Ct_c (rc := 1) (by decide) rfl (fun D as g M Po hS => ?_)
  unfold js_X9_workN at hS
  split at hS
  · rename_i n1 a n2 x n3 p n4 q n5 r
    obtain ⟨c, hP⟩ := hS
    refine ⟨Nat.le_of_ble_eq_true rfl, ?_⟩
    refine jx_runL (o := jo_X9) (cs := []) (hf := jx_nh) jo_X9_ok jx_cs0 (jx_HK_nil rfl) (fun p => p == 3) 20 ?_
    simp only [jw, ju, jx_tg, Int.cast_ofNat_Int, Int.reduceAdd, Int.reduceToNat, Nat.reduceAdd, Nat.reduceMul, Nat.reduceBEq, Nat.reduceLeDiff, Int.reduceLE, Int.reduceLT, Int.reduceEq, Int.reduceNeg, Int.reduceSub, Int.reduceMul, not_false_eq_true, true_and, and_true, and_self, Bool.or_false, Bool.false_or, Bool.or_true, Bool.true_or, List.length_nil, List.length_cons, Nat.zero_le, or_true, true_or, Nat.le_refl, ↓reduceIte, Nat.reduceEqDiff, forall_const, false_and, and_false, false_implies, implies_true, not_true_eq_false, or_false, false_or, ne_eq, jd_X9_work]
    subst c
    refine jx_s_msg (x := 4) (hf := jx_nh) (jx_HK_nil rfl) jx_xg4 (jx_t_ldiv (by decide +kernel)) (by decide) ⟨by decide, by decide⟩ ?_
    exact hP
  · exact hS.elim
/-! Store.work -/
def ja_SwY : jx_Sp := fun as g M Po => match as with
  | [(71, n, a), (61, _, x), (1, _, p), (1, _, _), (1, _, _)] => ((g.2 a).1 = 71 ∧ (g.2 a).2 = n ∧ 0 ≤ a) ∧ (0 ≤ M a 7 ∧ M a 7 < 8) ∧ 0 ≤ xw_z M x a ∧ ∃ n, g.2 (xw_z M x a) = (11, n) ∧ (0 ≤ f_place p ∧ f_place p < n) ∧ Po (1, 0, M (xw_z M x a) (f_place p)) g M
  | _ => False
def ja_SwN : jx_Sp := fun as g M Po => match as with
  | [(71, n, a), (61, _, x), (1, _, p), (1, _, _), (1, _, _)] => ((g.2 a).1 = 71 ∧ (g.2 a).2 = n ∧ 0 ≤ a) ∧ (0 ≤ M a 7 ∧ M a 7 < 8) ∧ xw_no g M x a p Po
  | _ => False
theorem jx_ok_71 {g : jx_S} {n a : Int} {t : Nat} {as : List jx_A} (ht : jx_in t 71) (ht2 : 10 ≤ t ∧ jx_nr t) (hk : (g.2 a).1 = 71 ∧ (g.2 a).2 = n ∧ 0 ≤ a) (h : jx_ok g ((71, n, a) :: as)) : jx_ok g ((t, n, a) :: as) :=
  jx_ok_cons ⟨fun z => (by have z : t = 1 := z; omega), fun _ => ⟨(by rw [hk.1]; exact ht), hk.2.1⟩, fun _ => ht2.2⟩ (jx_ok_tl h)
theorem jx_ws1 {w0 : Cond} (h0 : w0 ∈ lw_all) : ∀ w ∈ w0 :: lw_all, w ∈ lw_all := fun w hw => by
  rcases List.mem_cons.mp hw with e | e
  · rw [e]; exact h0
  · exact e
theorem jz_SwY {D : jx_D} {l : Launch} {d : Nat} (hd : 2 ≤ d) : jx_CS D l "LoopLane$Store" d (jx_op 35) 5 0 0 ja_SwY := by
  intro as g M Po hS
  unfold ja_SwY at hS
  split at hS
  rotate_left
  · exact hS.elim
  rename_i n a n2 x n3 p n4 q n5 r
  obtain ⟨hk, hP⟩ := hS
  exact jx_CR_re (as' := [(81, n, a), (61, n2, x), (1, n3, p), (1, n4, q), (1, n5, r)]) (jt_X10_workY l) hP (congrArg (· :: _) ((jx_cv_ref (by decide) hk.2.2).trans (jx_cv_ref (by decide) hk.2.2).symm)) (jx_ok_71 (by simp [jx_in]) (by decide) hk) rfl (by omega) (by decide) (jx_ws1 q1051) (jx_hasCode_c q1051) q86 (jx_Go_SU (t := 71) (y := yX10_work) (by decide) (by rw [hk.1]; rfl) q1069 q1581 q385 q1050 q1051 (by decide) (show jx_sg yX10_work 4 from jx_sg_of (by decide +kernel)))
theorem jz_SwN {D : jx_D} {l : Launch} {d : Nat} (hd : 2 ≤ d) : jx_CS D l "LoopLane$Store" d (jx_op 35) 5 3 2000 ja_SwN := by
  intro as g M Po hS
  unfold ja_SwN at hS
  split at hS
  rotate_left
  · exact hS.elim
  rename_i n a n2 x n3 p n4 q n5 r
  obtain ⟨hk, hP⟩ := hS
  exact jx_CR_re (as' := [(81, n, a), (61, n2, x), (1, n3, p), (1, n4, q), (1, n5, r)]) (jt_X10_workN l) hP (congrArg (· :: _) ((jx_cv_ref (by decide) hk.2.2).trans (jx_cv_ref (by decide) hk.2.2).symm)) (jx_ok_71 (by simp [jx_in]) (by decide) hk) rfl (by omega) (by decide) (jx_ws1 q1051) (jx_hasCode_c q1051) q86 (jx_Go_SU (t := 71) (y := yX10_work) (by decide) (by rw [hk.1]; rfl) q1069 q1581 q385 q1050 q1051 (by decide) (show jx_sg yX10_work 4 from jx_sg_of (by decide +kernel)))
def ja_Sslot : jx_Sp := fun as g M Po => match as with
  | [(71, n, a)] => ((g.2 a).1 = 71 ∧ (g.2 a).2 = n ∧ 0 ≤ a) ∧ Po (0, 0, M a 7) g M
  | _ => False
theorem jz_Sslot {D : jx_D} {l : Launch} {d : Nat} (hd : 2 ≤ d) : jx_CS D l "LoopLane$Store" d (jx_op 45) 1 0 0 ja_Sslot := by
  intro as g M Po hS
  unfold ja_Sslot at hS
  split at hS
  rotate_left
  · exact hS.elim
  rename_i n a
  obtain ⟨⟨hc, hn, h0⟩, hP⟩ := hS
  exact jx_CR_U (y := yX10_slot) (t' := 81) (k := 0) (owner := "LoopLane$Fetch") (jt_X10_slot l) q580 hP (by omega) (by decide) q580 q86 (by decide) (by decide) (by decide) (hin := by rw [hc]; simp [jx_in]) hn h0 (hq := by rw [hc]; rfl) q1070 q1071 (.inl ⟨q579, q580⟩) ⟨by decide, by decide⟩ q1073 q579 (jx_sg_of (by decide +kernel)) rfl
theorem jz_Splace {D : jx_D} {l : Launch} {d : Nat} (hd : 2 ≤ d) : jx_CS D l "LoopLane$Store" d (jx_op 79) 1 0 0 js_X10_place := by
  intro as g M Po hS
  have hl : as.length = 1 := by
    unfold js_X10_place at hS
    split at hS
    · rfl
    · exact hS.elim
  refine jx_CR_of (jt_X10_place l) hS hl (by omega) (by decide) (jx_ws1 q1055) (jx_hasCode_c q1055) q86 ?_
  exact jx_Go_ST (y := yX10_place) q1075 q1076 ⟨rfl, rfl⟩ q1054 q86 q1055 (by rw [hl]; exact jx_sg_of (by decide +kernel)) ⟨by decide, by decide⟩
def js_X11_workY : jx_Sp := fun as g M Po => match as with
  | [(71, n, a), (61, _, x), (1, _, p), (1, _, q), (1, _, _)] => ((g.2 a).1 = 71 ∧ (g.2 a).2 = n ∧ 0 ≤ a) ∧ (0 ≤ M a 7 ∧ M a 7 < 8) ∧ 0 ≤ xw_z M x a ∧ ∃ n, g.2 (xw_z M x a) = (11, n) ∧ (0 ≤ f_place p ∧ f_place p < n) ∧ Po (1, 0, M (xw_z M x a) (f_place p)) g (jx_u M (xw_z M x a) (f_place p) q)
  | _ => False
def cs_X11_workY : jx_Cs := [(35, 5, 0, 0, ja_SwY), (45, 1, 0, 0, ja_Sslot), (60, 2, 0, 0, js_X1_longsY), (79, 1, 0, 0, js_X10_place)]
theorem hc_X11_workY {D : jx_D} {l : Launch} : jx_CsOK D l "LoopLane$Store" 2 cs_X11_workY := List.forall_mem_cons.mpr ⟨jz_SwY (by decide), List.forall_mem_cons.mpr ⟨jz_Sslot (by decide), List.forall_mem_cons.mpr ⟨jc_X11_20 (jt_X1_longsY l) (fun as g M Po (h : js_X1_longsY as g M Po) => by unfold js_X1_longsY at h; split at h <;> first | exact h.elim | exact ⟨_, _, _, rfl, rfl⟩) (by decide), List.forall_mem_cons.mpr ⟨jz_Splace (by decide), fun _ h => absurd h List.not_mem_nil⟩⟩⟩⟩
set_option maxHeartbeats 4000000 in
theorem jt_X11_workY (l : Launch) : jx_Ct l yX11_work (ws_ yX11_work cX11_work 10 (some .long)) 2 0 0 js_X11_workY := by
  refine jx_Ct_c (rc := 1) (by decide) rfl (fun D as g M Po hS => ?_)
  unfold js_X11_workY at hS
  split at hS
  · rename_i n1 a n2 x n3 p n4 q n5 r
    obtain ⟨hk, hs, hz, n, hg, c, hP⟩ := hS
    unfold xw_z at hz hg hP
    refine ⟨Nat.le_of_ble_eq_true rfl, ?_⟩
    refine jx_runL (o := jo_X11) (cs := cs_X11_workY) (hf := jx_nh) jo_X11_ok hc_X11_workY (jx_HK_nil rfl) (fun _ => false) 40 ?_
    simp only [jw, ju, jx_tg, Int.cast_ofNat_Int, Int.reduceAdd, Int.reduceToNat, Nat.reduceAdd, Nat.reduceMul, Nat.reduceBEq, Nat.reduceLeDiff, Int.reduceLE, Int.reduceLT, Int.reduceEq, Int.reduceNeg, Int.reduceSub, Int.reduceMul, not_false_eq_true, true_and, and_true, and_self, Bool.or_false, Bool.false_or, Bool.or_true, Bool.true_or, List.length_nil, List.length_cons, Nat.zero_le, or_true, true_or, Nat.le_refl, ↓reduceIte, Nat.reduceEqDiff, forall_const, false_and, and_false, false_implies, implies_true, not_true_eq_false, or_false, false_or, ne_eq, jd_X11_work, ja_SwY, ja_Sslot, js_X1_longsY, js_X10_place, xw_z, cs_X11_workY, jx_ck_c]
    exact ⟨hk, hs, hz, n, hg, c, hk, hs, hz, n, hg, c, hP⟩
  · exact hS.elim
def js_X11_workN : jx_Sp := fun as g M Po => match as with
  | [(71, n, a), (61, _, x), (1, _, p), (1, _, _), (1, _, _)] => ((g.2 a).1 = 71 ∧ (g.2 a).2 = n ∧ 0 ≤ a) ∧ (0 ≤ M a 7 ∧ M a 7 < 8) ∧ xw_no g M x a p Po
  | _ => False
def cs_X11_workN : jx_Cs := [(35, 5, 3, 2000, ja_SwN)]
theorem hc_X11_workN {D : jx_D} {l : Launch} : jx_CsOK D l "LoopLane$Store" 2 cs_X11_workN := List.forall_mem_cons.mpr ⟨jz_SwN (by decide), fun _ h => absurd h List.not_mem_nil⟩
set_option maxHeartbeats 4000000 in
theorem jt_X11_workN (l : Launch) : jx_Ct l yX11_work (ws_ yX11_work cX11_work 10 (some .long)) 2 3 2000 js_X11_workN := by
  refine jx_Ct_c (rc := 1) (by decide) rfl (fun D as g M Po hS => ?_)
  unfold js_X11_workN at hS
  split at hS
  · rename_i n1 a n2 x n3 p n4 q n5 r
    obtain ⟨hk, hs, hN, hY⟩ := hS
    refine ⟨Nat.le_of_ble_eq_true rfl, ?_⟩
    refine jx_runL (o := jo_X11) (cs := cs_X11_workN) (hf := jx_nh) jo_X11_ok hc_X11_workN (jx_HK_nil rfl) (fun p => p == 10) 40 ?_
    simp only [jw, ju, jx_tg, Int.cast_ofNat_Int, Int.reduceAdd, Int.reduceToNat, Nat.reduceAdd, Nat.reduceMul, Nat.reduceBEq, Nat.reduceLeDiff, Int.reduceLE, Int.reduceLT, Int.reduceEq, Int.reduceNeg, Int.reduceSub, Int.reduceMul, not_false_eq_true, true_and, and_true, and_self, Bool.or_false, Bool.false_or, Bool.or_true, Bool.true_or, List.length_nil, List.length_cons, Nat.zero_le, or_true, true_or, Nat.le_refl, ↓reduceIte, Nat.reduceEqDiff, forall_const, false_and, and_false, false_implies, implies_true, not_true_eq_false, or_false, false_or, ne_eq, jd_X11_work, ja_SwN, xw_no, cs_X11_workN, jx_ck_c]
    refine ⟨hk, hs, hN, fun w => ?_⟩
    rcases hY w with h | h
    · exact .inl h
    · exact .inr h
  · exact hS.elim
