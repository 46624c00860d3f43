/-! the reference: prove, count -/
set_option maxRecDepth 100000
noncomputable def f_prove (b : Int) (S : jx_M) : mR := @ite _ (mm_ready S) (Classical.propDecidable _)
  (if b < 0 then (-4, mu_no (jx_u S 0 32 0) 0 (-4)) else @ite _ (1 ≤ b ∧ b ≤ 60) (Classical.propDecidable _)
    (if mm_byU S ≤ b then @ite _ (mm_Rg S b) (Classical.propDecidable _) ((ms_go S b 61000 0 (fun _ => 0) 0).1, jx_u S 0 32 (ms_go S b 61000 0 (fun _ => 0) 0).2.1) (2, jx_u S 0 32 0) else (1, jx_u S 0 32 0))
    (-9, mu_no (jx_u S 0 32 0) 0 (-9)))
  (-2, mu_no (jx_u S 0 32 0) 0 (-2))
theorem mK_no32 {y r w : Int} {g : jx_S} {M : jx_M} {Po : jx_Po} {t : Nat} (h : mK y g M Po t r (mu_no (jx_u (mY M y) 0 32 0) 0 w)) : Po (t, 0, r) g (jx_u (jx_u (jx_u M y 32 0) (y + 23) (-w) (M (y + 23) (-w) + 1)) y 26 w) := by
  refine mK_of h ?_ (mFr_u0 (mFr_u (mFr_u0 mFr_rf) (by omega)))
  simp only [mY_u, mY_u0]
  unfold mu_no
  simp only [Int.zero_add]
  rw [show jx_u (mY M y) 0 32 0 23 (-w) = M (y + 23) (-w) from jx_u_a _ _ _ _ _ _ (by decide)]
def js_X13_prove : jx_Sp := fun as g M Po => match as with
  | [(73, _, y), (0, _, b)] => (mB (mY M y) ∧ jx_r b) ∧ mK y g M Po 0 (f_prove b (mY M y)).1 (f_prove b (mY M y)).2
  | _ => False
def cs_X13_prove : jx_Cs := [(630, 1, 0, 0, js_X13_isReady), (372, 2, 0, 0, js_X13_no), (412, 3, 0, 0, js_X13_isIn), (531, 1, 0, 0, js_X13_gather), (612, 1, 0, 0, js_X13_byUnits), (591, 2, 0, 0, js_X13_rests), (690, 2, 0, 0, js_X13_tries)]
theorem hc_X13_prove {D : jx_D} {l : Launch} : jx_CsOK D l "LoopLaneModel" 5 cs_X13_prove := List.forall_mem_cons.mpr ⟨jc_X13_210 (jt_X13_isReady l) (fun as g M Po (h : js_X13_isReady as g M Po) => by unfold js_X13_isReady at h; split at h <;> first | exact h.elim | exact ⟨_, _, _, rfl, rfl⟩) (by decide), List.forall_mem_cons.mpr ⟨jc_X13_124 (jt_X13_no l) (fun as g M Po (h : js_X13_no as g M Po) => by unfold js_X13_no at h; split at h <;> first | exact h.elim | exact ⟨_, _, _, rfl, rfl⟩) (by decide), List.forall_mem_cons.mpr ⟨jc_X13_137 (jt_X13_isIn l) (fun as g M Po (h : js_X13_isIn as g M Po) => by unfold js_X13_isIn at h; split at h <;> first | exact h.elim | exact rfl) (by decide), List.forall_mem_cons.mpr ⟨jc_X13_177 (jt_X13_gather l) (fun as g M Po (h : js_X13_gather as g M Po) => by unfold js_X13_gather at h; split at h <;> first | exact h.elim | exact ⟨_, _, _, rfl, rfl⟩) (by decide), List.forall_mem_cons.mpr ⟨jc_X13_204 (jt_X13_byUnits l) (fun as g M Po (h : js_X13_byUnits as g M Po) => by unfold js_X13_byUnits at h; split at h <;> first | exact h.elim | exact ⟨_, _, _, rfl, rfl⟩) (by decide), List.forall_mem_cons.mpr ⟨jc_X13_197 (jt_X13_rests l) (fun as g M Po (h : js_X13_rests as g M Po) => by unfold js_X13_rests at h; split at h <;> first | exact h.elim | exact ⟨_, _, _, rfl, rfl⟩) (by decide), List.forall_mem_cons.mpr ⟨jc_X13_230 (jt_X13_tries l) (fun as g M Po (h : js_X13_tries as g M Po) => by unfold js_X13_tries at h; split at h <;> first | exact h.elim | exact ⟨_, _, _, rfl, rfl⟩) (by decide), fun _ h => absurd h List.not_mem_nil⟩⟩⟩⟩⟩⟩⟩
set_option maxHeartbeats 4000000 in
theorem jt_X13_prove (l : Launch) : jx_Ct l yX13_prove (ws_ yX13_prove cX13_prove 2 (some .int)) 5 0 0 js_X13_prove := by
  refine jx_Ct_c (rc := 0) (by decide) rfl (fun D as g M Po hS => ?_)
  unfold js_X13_prove at hS
  split at hS
  · rename_i n1 y n2 b
    obtain ⟨⟨hB, r1⟩, hK⟩ := hS
    unfold f_prove at hK
    simp only [mK_ite] at hK
    refine ⟨Nat.le_of_ble_eq_true rfl, ?_⟩
    have h9 := hB.1
    rw [mY_0] at h9
    have z0 : mZ (mY M y) (mY (jx_u M y 32 0) y) := by rw [mY_u0]; exact mZ_0 mZ_rf (by decide)
    have rd := mm_ready_Z z0
    have B0 := mB_Z z0 hB
    refine jx_runL (o := jo_X13) (cs := cs_X13_prove) (hf := jx_nh) jo_X13_ok hc_X13_prove (jx_HK_nil rfl) (fun p => p == 19) 60 ?_
    simp only [jw, ju, jx_tg, Int.cast_ofNat_Int, Int.reduceAdd, Int.reduceToNat, Nat.reduceAdd, Nat.reduceMul, Nat.reduceBEq, Nat.reduceLeDiff, Int.reduceLE, Int.reduceLT, Int.reduceEq, Int.reduceNeg, Int.reduceSub, Int.reduceMul, not_false_eq_true, true_and, and_true, and_self, Bool.or_false, Bool.false_or, Bool.or_true, Bool.true_or, List.length_nil, List.length_cons, Nat.zero_le, or_true, true_or, Nat.le_refl, ↓reduceIte, Nat.reduceEqDiff, forall_const, false_and, and_false, false_implies, implies_true, not_true_eq_false, or_false, false_or, ne_eq, jd_X13_prove, jf_X13, js_X13_byUnits, js_X13_gather, js_X13_isIn, js_X13_isReady, js_X13_no, js_X13_rests, js_X13_tries, cs_X13_prove, jx_ck_c]
    rw [rd]
    refine ⟨⟨h9, mB_ofs B0⟩, fun c => ?_, fun c => mK_no32 (hK.2 c)⟩
    have hE := hK.1 c
    have h0 := c.1
    rw [mY_0] at h0
    refine jx_runL (o := jo_X13) (cs := cs_X13_prove) (hf := jx_nh) jo_X13_ok hc_X13_prove (jx_HK_nil rfl) (fun p => p == 49) 60 ?_
    simp only [jw, ju, jx_tg, Int.cast_ofNat_Int, Int.reduceAdd, Int.reduceToNat, Nat.reduceAdd, Nat.reduceMul, Nat.reduceBEq, Nat.reduceLeDiff, Int.reduceLE, Int.reduceLT, Int.reduceEq, Int.reduceNeg, Int.reduceSub, Int.reduceMul, not_false_eq_true, true_and, and_true, and_self, Bool.or_false, Bool.false_or, Bool.or_true, Bool.true_or, List.length_nil, List.length_cons, Nat.zero_le, or_true, true_or, Nat.le_refl, ↓reduceIte, Nat.reduceEqDiff, forall_const, false_and, and_false, false_implies, implies_true, not_true_eq_false, or_false, false_or, ne_eq, jd_X13_prove, jf_X13, js_X13_byUnits, js_X13_gather, js_X13_isIn, js_X13_isReady, js_X13_no, js_X13_rests, js_X13_tries, cs_X13_prove, jx_ck_c]
    refine ⟨r1, fun c1 => ⟨r1, fun c2 => ?_, fun c2 => mK_no32 ((hE.2 (by omega)).2 c2)⟩, fun c1 => mK_no32 (hE.1 (by omega))⟩
    have hE2 := (hE.2 (by omega)).1 c2
    have hur := mm_byU_r hB.1 hB.2.2.2.2.2
    refine jx_runL (o := jo_X13) (cs := cs_X13_prove) (hf := jx_nh) jo_X13_ok hc_X13_prove (jx_HK_nil rfl) (fun p => p == 53) 60 ?_
    simp only [jw, ju, jx_tg, Int.cast_ofNat_Int, Int.reduceAdd, Int.reduceToNat, Nat.reduceAdd, Nat.reduceMul, Nat.reduceBEq, Nat.reduceLeDiff, Int.reduceLE, Int.reduceLT, Int.reduceEq, Int.reduceNeg, Int.reduceSub, Int.reduceMul, not_false_eq_true, true_and, and_true, and_self, Bool.or_false, Bool.false_or, Bool.or_true, Bool.true_or, List.length_nil, List.length_cons, Nat.zero_le, or_true, true_or, Nat.le_refl, ↓reduceIte, Nat.reduceEqDiff, forall_const, false_and, and_false, false_implies, implies_true, not_true_eq_false, or_false, false_or, ne_eq, jd_X13_prove, jf_X13, js_X13_byUnits, js_X13_gather, js_X13_isIn, js_X13_isReady, js_X13_no, js_X13_rests, js_X13_tries, cs_X13_prove, jx_ck_c]
    refine ⟨mB_W B0, fun M1 k1 => ?_⟩
    have q1 : mQ (jx_u (mY M y) 0 32 0) (mY M1 y) := by rw [← mY_u0]; exact mEg_Q k1
    have z1 : mZ (mY M y) (mY M1 y) := mZ_tr z0 (mQ_Z (mEg_Q k1))
    have B1 := mB_Z z1 hB
    have e9 : M1 y 9 = M y 9 := by have := z1.2.1; rw [mY_0, mY_0] at this; exact this
    have fr1 : mFr y M M1 := mFr_tr (mFr_u0 mFr_rf) (mEg_Fr k1)
    have ek := mEg_eok B0 k1
    rw [jx_u_j _ _ _ _ _ _ (show (9 : Int) ≠ 32 by decide)] at ek
    refine jx_runL (o := jo_X13) (cs := cs_X13_prove) (hf := jx_nh) jo_X13_ok hc_X13_prove (jx_HK_nil rfl) (fun p => p == 63) 60 ?_
    simp only [jw, ju, jx_tg, Int.cast_ofNat_Int, Int.reduceAdd, Int.reduceToNat, Nat.reduceAdd, Nat.reduceMul, Nat.reduceBEq, Nat.reduceLeDiff, Int.reduceLE, Int.reduceLT, Int.reduceEq, Int.reduceNeg, Int.reduceSub, Int.reduceMul, not_false_eq_true, true_and, and_true, and_self, Bool.or_false, Bool.false_or, Bool.or_true, Bool.true_or, List.length_nil, List.length_cons, Nat.zero_le, or_true, true_or, Nat.le_refl, ↓reduceIte, Nat.reduceEqDiff, forall_const, false_and, and_false, false_implies, implies_true, not_true_eq_false, or_false, false_or, ne_eq, jd_X13_prove, jf_X13, js_X13_byUnits, js_X13_gather, js_X13_isIn, js_X13_isReady, js_X13_no, js_X13_rests, js_X13_tries, cs_X13_prove, jx_ck_c]
    rw [mm_byU_Z z1]
    refine ⟨⟨by omega, mB_up B1, B1.2.2.2.2.2⟩, by omega, fun c3 => ?_, fun c3 => hE2.2 c3 M1 q1 fr1⟩
    have hE3 := hE2.1 c3
    have eall : me_all (mY (jx_u M y 32 0) y) = me_all (mY M y) := me_all_Z z0
    have hEO : mm_EO (me_all (mY M y)) (M1 (y + 15)) (M1 (y + 16)) (M1 (y + 17)) (M1 (y + 18)) (M1 y 20) := by rw [← eall]; exact k1.2.1
    have hsol : ∀ f, mm_Sol (M1 y 9) (M1 y 20) (M1 (y + 15)) (M1 (y + 16)) (mm_wr y b M1) f ↔ mm_SolE (M1 y 9) (me_all (mY M y)) (mm_wt b) f := fun f => mm_sol_E (w := mm_wt b) hEO
    have hRg : mm_Rg (mY M y) b ↔ ∃ f, mm_Sol (M1 y 9) (M1 y 20) (M1 (y + 15)) (M1 (y + 16)) (mm_wr y b M1) f := by
      unfold mm_Rg
      rw [mY_0, ← e9]
      exact ⟨fun ⟨f, z⟩ => ⟨f, (hsol f).mpr z⟩, fun ⟨f, z⟩ => ⟨f, (hsol f).mp z⟩⟩
    refine jx_runL (o := jo_X13) (cs := cs_X13_prove) (hf := jx_nh) jo_X13_ok hc_X13_prove (jx_HK_nil rfl) (fun p => p == 68) 60 ?_
    simp only [jw, ju, jx_tg, Int.cast_ofNat_Int, Int.reduceAdd, Int.reduceToNat, Nat.reduceAdd, Nat.reduceMul, Nat.reduceBEq, Nat.reduceLeDiff, Int.reduceLE, Int.reduceLT, Int.reduceEq, Int.reduceNeg, Int.reduceSub, Int.reduceMul, not_false_eq_true, true_and, and_true, and_self, Bool.or_false, Bool.false_or, Bool.or_true, Bool.true_or, List.length_nil, List.length_cons, Nat.zero_le, or_true, true_or, Nat.le_refl, ↓reduceIte, Nat.reduceEqDiff, forall_const, false_and, and_false, false_implies, implies_true, not_true_eq_false, or_false, false_or, ne_eq, jd_X13_prove, jf_X13, js_X13_byUnits, js_X13_gather, js_X13_isIn, js_X13_isReady, js_X13_no, js_X13_rests, js_X13_tries, cs_X13_prove, jx_ck_c]
    refine ⟨⟨by omega, by omega, by rw [e9]; exact ek.1⟩, fun r M2 j1 j2 => ?_⟩
    have q2 : mQ (jx_u (mY M y) 0 32 0) (mY M2 y) := mQ_tr q1 (mPf_Q j2)
    have z2 : mZ (mY M y) (mY M2 y) := mZ_tr z1 (mQ_Z (mPf_Q j2))
    have B2 := mB_Z z2 hB
    have fr2 : mFr y M M2 := mFr_tr fr1 (mPf_Fr j2)
    rcases j1 with ⟨rfl, j1⟩ | ⟨rfl, j1⟩
    · have hE4 := hE3.1 (hRg.mpr ⟨_, j1.1⟩)
      have f9 : M2 y 9 = M y 9 := by have := z2.2.1; rw [mY_0, mY_0] at this; exact this
      have f32 : M2 y 32 = 0 := by rw [mPf_0 j2, k1.2.2 y 32 (by omega) (by omega) (by omega) (by omega) (by omega), jx_u_eq]
      have hst : mm_std y (mY M2 y) M2 := by
        unfold mm_std
        rw [me_all_Z z2, mPf_0 j2, mPf_j j2 (by decide), mPf_j j2 (by decide), mPf_j j2 (by decide), mPf_j j2 (by decide)]
        exact hEO
      refine jx_runL (o := jo_X13) (cs := cs_X13_prove) (hf := jx_nh) jo_X13_ok hc_X13_prove (jx_HK_nil rfl) (fun _ => false) 60 ?_
      simp only [jw, ju, jx_tg, Int.cast_ofNat_Int, Int.reduceAdd, Int.reduceToNat, Nat.reduceAdd, Nat.reduceMul, Nat.reduceBEq, Nat.reduceLeDiff, Int.reduceLE, Int.reduceLT, Int.reduceEq, Int.reduceNeg, Int.reduceSub, Int.reduceMul, not_false_eq_true, true_and, and_true, and_self, Bool.or_false, Bool.false_or, Bool.or_true, Bool.true_or, List.length_nil, List.length_cons, Nat.zero_le, or_true, true_or, Nat.le_refl, ↓reduceIte, Nat.reduceEqDiff, forall_const, false_and, and_false, false_implies, implies_true, not_true_eq_false, or_false, false_or, ne_eq, jd_X13_prove, jf_X13, js_X13_byUnits, js_X13_gather, js_X13_isIn, js_X13_isReady, js_X13_no, js_X13_rests, js_X13_tries, cs_X13_prove, jx_ck_c]
      rw [ms_go_Z z2, f32]
      refine ⟨⟨by omega, by omega, by omega, mm_eok_P j2 ek.2, hst, mB_up B2, B2.2.2.2.2.2⟩, fun M3 k => hE4 M3 ?_ ?_⟩
      · obtain ⟨p1, p2, p3, p4, p5⟩ := k
        intro j i a0 a1 a2 a3 a4 a5
        by_cases hc : j = 0 ∧ i = 32
        · rw [hc.1, hc.2, mY_0, p1, jx_u_eq]
        · have := q2 j i a0 a1 a2 a3 a4 a5
          rw [show jx_u (mY M y) 0 32 (ms_go (mY M y) b 61000 0 (fun _ => 0) 0).2.1 j i = mY M y j i from if_neg hc]
          rw [show jx_u (mY M y) 0 32 0 j i = mY M y j i from if_neg hc] at this
          rw [← this]
          exact p5 (y + j) i (by omega) (by omega) (by omega) (by omega)
      · exact fun z i q => (k.2.2.2.2 z i (by omega) (by omega) (by omega) (by omega)).trans (fr2 z i q)
    · have hE4 := hE3.2 (fun z => j1 (hRg.mp z))
      refine jx_runL (o := jo_X13) (cs := cs_X13_prove) (hf := jx_nh) jo_X13_ok hc_X13_prove (jx_HK_nil rfl) (fun _ => false) 60 ?_
      simp only [jw, ju, jx_tg, Int.cast_ofNat_Int, Int.reduceAdd, Int.reduceToNat, Nat.reduceAdd, Nat.reduceMul, Nat.reduceBEq, Nat.reduceLeDiff, Int.reduceLE, Int.reduceLT, Int.reduceEq, Int.reduceNeg, Int.reduceSub, Int.reduceMul, not_false_eq_true, true_and, and_true, and_self, Bool.or_false, Bool.false_or, Bool.or_true, Bool.true_or, List.length_nil, List.length_cons, Nat.zero_le, or_true, true_or, Nat.le_refl, ↓reduceIte, Nat.reduceEqDiff, forall_const, false_and, and_false, false_implies, implies_true, not_true_eq_false, or_false, false_or, ne_eq, jd_X13_prove, jf_X13, js_X13_byUnits, js_X13_gather, js_X13_isIn, js_X13_isReady, js_X13_no, js_X13_rests, js_X13_tries, cs_X13_prove, jx_ck_c]
      exact hE4 M2 q2 fr2
  · exact hS.elim
noncomputable def f_count (w : Int) (S : jx_M) : mR := @ite _ (0 ≤ w ∧ w ≤ 4) (Classical.propDecidable _)
  (if w = 0 then (S 0 9, S) else if w = 1 then (S 0 15, S) else if w = 2 then (me_n S, S) else if w = 3 then (mm_sum (fun a => if S 1 a = 5 then 1 else 0) (S 0 9).toNat, S) else (mm_sum (S 10) 6, S)) (mno (-9) S)
def js_X13_count : jx_Sp := fun as g M Po => match as with
  | [(73, _, y), (0, _, w)] => (mB (mY M y) ∧ jx_r w) ∧ mK y g M Po 0 (f_count w (mY M y)).1 (f_count w (mY M y)).2
  | _ => False
def cs_X13_count : jx_Cs := [(412, 3, 0, 0, js_X13_isIn), (372, 2, 0, 0, js_X13_no), (531, 1, 0, 0, js_X13_gather)]
theorem hc_X13_count {D : jx_D} {l : Launch} : jx_CsOK D l "LoopLaneModel" 3 cs_X13_count := List.forall_mem_cons.mpr ⟨jc_X13_137 (jt_X13_isIn l) (fun as g M Po (h : js_X13_isIn as g M Po) => by unfold js_X13_isIn at h; split at h <;> first | exact h.elim | exact rfl) (by decide), List.forall_mem_cons.mpr ⟨jc_X13_124 (jt_X13_no l) (fun as g M Po (h : js_X13_no as g M Po) => by unfold js_X13_no at h; split at h <;> first | exact h.elim | exact ⟨_, _, _, rfl, rfl⟩) (by decide), List.forall_mem_cons.mpr ⟨jc_X13_177 (jt_X13_gather l) (fun as g M Po (h : js_X13_gather as g M Po) => by unfold js_X13_gather at h; split at h <;> first | exact h.elim | exact ⟨_, _, _, rfl, rfl⟩) (by decide), fun _ h => absurd h List.not_mem_nil⟩⟩⟩
set_option maxHeartbeats 4000000 in
theorem jt_X13_count (l : Launch) : jx_Ct l yX13_count (ws_ yX13_count cX13_count 4 (some .int)) 3 0 0 js_X13_count := by
  refine jx_Ct_c (rc := 0) (by decide) rfl (fun D as g M Po hS => ?_)
  unfold js_X13_count at hS
  split at hS
  · rename_i n1 y n2 w
    obtain ⟨⟨hB, r1⟩, hK⟩ := hS
    unfold f_count at hK
    simp only [mK_ite, mno] at hK
    simp only [mY_0] at hK
    refine ⟨Nat.le_of_ble_eq_true rfl, ?_⟩
    have h9 := hB.1
    rw [mY_0] at h9
    refine jx_runL (o := jo_X13) (cs := cs_X13_count) (hf := jx_nh) jo_X13_ok hc_X13_count (jx_HK_nil rfl) (fun p => p == 38) 60 ?_
    simp only [jw, ju, jx_tg, Int.cast_ofNat_Int, Int.reduceAdd, Int.reduceToNat, Nat.reduceAdd, Nat.reduceMul, Nat.reduceBEq, Nat.reduceLeDiff, Int.reduceLE, Int.reduceLT, Int.reduceEq, Int.reduceNeg, Int.reduceSub, Int.reduceMul, not_false_eq_true, true_and, and_true, and_self, Bool.or_false, Bool.false_or, Bool.or_true, Bool.true_or, List.length_nil, List.length_cons, Nat.zero_le, or_true, true_or, Nat.le_refl, ↓reduceIte, Nat.reduceEqDiff, forall_const, false_and, and_false, false_implies, implies_true, not_true_eq_false, or_false, false_or, ne_eq, jd_X13_count, jf_X13, js_X13_gather, js_X13_isIn, js_X13_no, cs_X13_count, jx_ck_c]
    refine ⟨r1, fun c1 => ⟨r1, fun c2 => ⟨by omega, fun c3 => ?_, fun c3 => mK_s (((hK.1 c1).2 c2).1 (by omega))⟩, fun c2 => mK_s ((hK.1 c1).1 (by omega))⟩, fun c1 => mK_no (hK.2 c1)⟩
    have hE := ((hK.1 c1).2 c2).2 c3
    refine jx_runL (o := jo_X13) (cs := cs_X13_count) (hf := jx_nh) jo_X13_ok hc_X13_count (jx_HK_nil rfl) (fun p => p == 42) 60 ?_
    simp only [jw, ju, jx_tg, Int.cast_ofNat_Int, Int.reduceAdd, Int.reduceToNat, Nat.reduceAdd, Nat.reduceMul, Nat.reduceBEq, Nat.reduceLeDiff, Int.reduceLE, Int.reduceLT, Int.reduceEq, Int.reduceNeg, Int.reduceSub, Int.reduceMul, not_false_eq_true, true_and, and_true, and_self, Bool.or_false, Bool.false_or, Bool.or_true, Bool.true_or, List.length_nil, List.length_cons, Nat.zero_le, or_true, true_or, Nat.le_refl, ↓reduceIte, Nat.reduceEqDiff, forall_const, false_and, and_false, false_implies, implies_true, not_true_eq_false, or_false, false_or, ne_eq, jd_X13_count, jf_X13, js_X13_gather, js_X13_isIn, js_X13_no, cs_X13_count, jx_ck_c]
    refine ⟨mB_W hB, fun M1 k1 => ?_⟩
    have q1 := mEg_Q k1
    have z1 := mQ_Z q1
    have e9 : M1 y 9 = M y 9 := by have := z1.2.1; rw [mY_0, mY_0] at this; exact this
    have e15 : M1 y 15 = M y 15 := by have := z1.2.2; rw [mY_0, mY_0] at this; exact this
    have e10 : ∀ k, M1 (y + 10) k = M (y + 10) k := fun k => congrFun (z1.1 10 (by decide) (by decide)) k
    by_cases c4 : w = 2
    · have := hE.1 c4 M1 q1 (mEg_Fr k1)
      refine jx_runL (o := jo_X13) (cs := cs_X13_count) (hf := jx_nh) jo_X13_ok hc_X13_count (jx_HK_nil rfl) (fun p => p == 57) 60 ?_
      simp only [jw, ju, jx_tg, Int.cast_ofNat_Int, Int.reduceAdd, Int.reduceToNat, Nat.reduceAdd, Nat.reduceMul, Nat.reduceBEq, Nat.reduceLeDiff, Int.reduceLE, Int.reduceLT, Int.reduceEq, Int.reduceNeg, Int.reduceSub, Int.reduceMul, not_false_eq_true, true_and, and_true, and_self, Bool.or_false, Bool.false_or, Bool.or_true, Bool.true_or, List.length_nil, List.length_cons, Nat.zero_le, or_true, true_or, Nat.le_refl, ↓reduceIte, Nat.reduceEqDiff, forall_const, false_and, and_false, false_implies, implies_true, not_true_eq_false, or_false, false_or, ne_eq, jd_X13_count, jf_X13, k1.1, e15, js_X13_gather, js_X13_isIn, js_X13_no, cs_X13_count, jx_ck_c]
      refine ⟨by omega, fun c5 => absurd c4 c5, fun c5 => ?_⟩
      rw [show me_n (mY M y) + M y 15 - M y 15 = me_n (mY M y) by omega]
      exact this
    · have hE2 := hE.2 c4
      have loop : ∀ (f a : Nat), (a : Int) + f = M y 9 → jx_V D l (yX13_count.cls, cX13_count, 4, 0, [], 3, 0, 0, yX13_count.name) Po 61 [(73, n1, y), (0, n2, w), (0, 0, mm_sum (fun a => if mY M y 1 a = 5 then 1 else 0) a), (0, 0, (a : Int))] [] (0, 0) g (M1) := by
        intro f
        induction f with
        | zero =>
          intro a ha
          rw [show (M y 9).toNat = a by omega] at hE2
          refine jx_runL (o := jo_X13) (cs := cs_X13_count) (hf := jx_nh) jo_X13_ok hc_X13_count (jx_HK_nil rfl) (fun p => p == 61 || p == 93) 60 ?_
          simp only [jw, ju, jx_tg, Int.cast_ofNat_Int, Int.reduceAdd, Int.reduceToNat, Nat.reduceAdd, Nat.reduceMul, Nat.reduceBEq, Nat.reduceLeDiff, Int.reduceLE, Int.reduceLT, Int.reduceEq, Int.reduceNeg, Int.reduceSub, Int.reduceMul, not_false_eq_true, true_and, and_true, and_self, Bool.or_false, Bool.false_or, Bool.or_true, Bool.true_or, List.length_nil, List.length_cons, Nat.zero_le, or_true, true_or, Nat.le_refl, ↓reduceIte, Nat.reduceEqDiff, forall_const, false_and, and_false, false_implies, implies_true, not_true_eq_false, or_false, false_or, ne_eq, jd_X13_count, jf_X13, e9, js_X13_gather, js_X13_isIn, js_X13_no, cs_X13_count, jx_ck_c]
          refine ⟨by omega, fun c => ?_, fun c => by omega⟩
          by_cases c5 : w = 3
          · have := hE2.1 c5 M1 q1 (mEg_Fr k1)
            refine jx_runL (o := jo_X13) (cs := cs_X13_count) (hf := jx_nh) jo_X13_ok hc_X13_count (jx_HK_nil rfl) (fun p => p == 102) 60 ?_
            simp only [jw, ju, jx_tg, Int.cast_ofNat_Int, Int.reduceAdd, Int.reduceToNat, Nat.reduceAdd, Nat.reduceMul, Nat.reduceBEq, Nat.reduceLeDiff, Int.reduceLE, Int.reduceLT, Int.reduceEq, Int.reduceNeg, Int.reduceSub, Int.reduceMul, not_false_eq_true, true_and, and_true, and_self, Bool.or_false, Bool.false_or, Bool.or_true, Bool.true_or, List.length_nil, List.length_cons, Nat.zero_le, or_true, true_or, Nat.le_refl, ↓reduceIte, Nat.reduceEqDiff, forall_const, false_and, and_false, false_implies, implies_true, not_true_eq_false, or_false, false_or, ne_eq, jd_X13_count, jf_X13, js_X13_gather, js_X13_isIn, js_X13_no, cs_X13_count, jx_ck_c]
            exact ⟨by omega, fun c6 => absurd c5 c6, fun c6 => this⟩
          · have := hE2.2 c5 M1 q1 (mEg_Fr k1)
            refine jx_runL (o := jo_X13) (cs := cs_X13_count) (hf := jx_nh) jo_X13_ok hc_X13_count (jx_HK_nil rfl) (fun p => p == 102) 60 ?_
            simp only [jw, ju, jx_tg, Int.cast_ofNat_Int, Int.reduceAdd, Int.reduceToNat, Nat.reduceAdd, Nat.reduceMul, Nat.reduceBEq, Nat.reduceLeDiff, Int.reduceLE, Int.reduceLT, Int.reduceEq, Int.reduceNeg, Int.reduceSub, Int.reduceMul, not_false_eq_true, true_and, and_true, and_self, Bool.or_false, Bool.false_or, Bool.or_true, Bool.true_or, List.length_nil, List.length_cons, Nat.zero_le, or_true, true_or, Nat.le_refl, ↓reduceIte, Nat.reduceEqDiff, forall_const, false_and, and_false, false_implies, implies_true, not_true_eq_false, or_false, false_or, ne_eq, jd_X13_count, jf_X13, js_X13_gather, js_X13_isIn, js_X13_no, cs_X13_count, jx_ck_c]
            refine ⟨by omega, fun c6 => ?_, fun c6 => by omega⟩
            refine jx_runL (o := jo_X13) (cs := cs_X13_count) (hf := jx_nh) jo_X13_ok hc_X13_count (jx_HK_nil rfl) (fun _ => false) 60 ?_
            simp only [jw, ju, jx_tg, Int.cast_ofNat_Int, Int.reduceAdd, Int.reduceToNat, Nat.reduceAdd, Nat.reduceMul, Nat.reduceBEq, Nat.reduceLeDiff, Int.reduceLE, Int.reduceLT, Int.reduceEq, Int.reduceNeg, Int.reduceSub, Int.reduceMul, not_false_eq_true, true_and, and_true, and_self, Bool.or_false, Bool.false_or, Bool.or_true, Bool.true_or, List.length_nil, List.length_cons, Nat.zero_le, or_true, true_or, Nat.le_refl, ↓reduceIte, Nat.reduceEqDiff, forall_const, false_and, and_false, false_implies, implies_true, not_true_eq_false, or_false, false_or, ne_eq, jd_X13_count, jf_X13, e10, js_X13_gather, js_X13_isIn, js_X13_no, cs_X13_count, jx_ck_c]
            rw [show mm_sum (mY M y 10) 6 = 0 + M (y + 10) 0 + M (y + 10) 1 + M (y + 10) 2 + M (y + 10) 3 + M (y + 10) 4 + M (y + 10) 5 from rfl, Int.zero_add] at this
            exact this
        | succ f ih =>
          intro a ha
          have e1 : M1 (y + 1) a = M (y + 1) a := congrFun (z1.1 1 (by decide) (by decide)) a
          have hs := (hB.2.2.1 a (by omega) (by rw [mY_0]; omega)).1
          simp only [mY_j] at hs
          have hx := ih (a + 1) (by omega)
          have e2 : mm_sum (fun a => if mY M y 1 a = 5 then 1 else 0) (a + 1) = mm_sum (fun a => if mY M y 1 a = 5 then 1 else 0) a + (if M (y + 1) a = 5 then 1 else 0) := rfl
          rw [e2] at hx
          refine jx_runL (o := jo_X13) (cs := cs_X13_count) (hf := jx_nh) jo_X13_ok hc_X13_count (jx_HK_nil rfl) (fun p => p == 61 || p == 93) 60 ?_
          simp only [jw, ju, jx_tg, Int.cast_ofNat_Int, Int.reduceAdd, Int.reduceToNat, Nat.reduceAdd, Nat.reduceMul, Nat.reduceBEq, Nat.reduceLeDiff, Int.reduceLE, Int.reduceLT, Int.reduceEq, Int.reduceNeg, Int.reduceSub, Int.reduceMul, not_false_eq_true, true_and, and_true, and_self, Bool.or_false, Bool.false_or, Bool.or_true, Bool.true_or, List.length_nil, List.length_cons, Nat.zero_le, or_true, true_or, Nat.le_refl, ↓reduceIte, Nat.reduceEqDiff, forall_const, false_and, and_false, false_implies, implies_true, not_true_eq_false, or_false, false_or, ne_eq, jd_X13_count, jf_X13, e9, e1, js_X13_gather, js_X13_isIn, js_X13_no, cs_X13_count, jx_ck_c]
          refine ⟨by omega, fun c => by omega, fun c => ⟨by omega, by omega, fun c5 => ?_, fun c5 => ?_⟩⟩
          · rw [if_neg c5] at hx
            exact hx
          · rw [if_pos (by omega)] at hx
            exact hx
      refine jx_runL (o := jo_X13) (cs := cs_X13_count) (hf := jx_nh) jo_X13_ok hc_X13_count (jx_HK_nil rfl) (fun p => p == 57 || p == 61) 60 ?_
      simp only [jw, ju, jx_tg, Int.cast_ofNat_Int, Int.reduceAdd, Int.reduceToNat, Nat.reduceAdd, Nat.reduceMul, Nat.reduceBEq, Nat.reduceLeDiff, Int.reduceLE, Int.reduceLT, Int.reduceEq, Int.reduceNeg, Int.reduceSub, Int.reduceMul, not_false_eq_true, true_and, and_true, and_self, Bool.or_false, Bool.false_or, Bool.or_true, Bool.true_or, List.length_nil, List.length_cons, Nat.zero_le, or_true, true_or, Nat.le_refl, ↓reduceIte, Nat.reduceEqDiff, forall_const, false_and, and_false, false_implies, implies_true, not_true_eq_false, or_false, false_or, ne_eq, jd_X13_count, jf_X13, js_X13_gather, js_X13_isIn, js_X13_no, cs_X13_count, jx_ck_c]
      refine ⟨by omega, fun c5 => ?_, fun c5 => absurd c5 (by omega)⟩
      refine jx_runL (o := jo_X13) (cs := cs_X13_count) (hf := jx_nh) jo_X13_ok hc_X13_count (jx_HK_nil rfl) (fun p => p == 61) 60 ?_
      simp only [jw, ju, jx_tg, Int.cast_ofNat_Int, Int.reduceAdd, Int.reduceToNat, Nat.reduceAdd, Nat.reduceMul, Nat.reduceBEq, Nat.reduceLeDiff, Int.reduceLE, Int.reduceLT, Int.reduceEq, Int.reduceNeg, Int.reduceSub, Int.reduceMul, not_false_eq_true, true_and, and_true, and_self, Bool.or_false, Bool.false_or, Bool.or_true, Bool.true_or, List.length_nil, List.length_cons, Nat.zero_le, or_true, true_or, Nat.le_refl, ↓reduceIte, Nat.reduceEqDiff, forall_const, false_and, and_false, false_implies, implies_true, not_true_eq_false, or_false, false_or, ne_eq, jd_X13_count, jf_X13, js_X13_gather, js_X13_isIn, js_X13_no, cs_X13_count, jx_ck_c]
      exact loop (M y 9).toNat 0 (by omega)
  · exact hS.elim
