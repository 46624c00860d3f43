/-! the reference: lay, prove, count -/
set_option maxRecDepth 100000
noncomputable def ms_lay (S : jx_M) : Nat → Int → Int → Int × Int × Int × (Int → Int)
  | 0, b, tr => (3, b, tr, fun _ => 0)
  | f + 1, b, tr => if 60 < b then (3, b, tr, fun _ => 0) else if (ms_go S b 61000 0 (fun _ => 0) tr).1 = 3 then ms_lay S f (b + 1) (ms_go S b 61000 0 (fun _ => 0) tr).2.1 else ((ms_go S b 61000 0 (fun _ => 0) tr).1, b, (ms_go S b 61000 0 (fun _ => 0) tr).2.1, (ms_go S b 61000 0 (fun _ => 0) tr).2.2)
/-- the least stages -/
noncomputable def ms_st (S : jx_M) (b : Int) (T : Int → Int) : Int → Int := Classical.epsilon (fun f => mm_LeastE (S 0 9) (me_all S) (mm_ws b T) f)
theorem ms_st_eq {S : jx_M} {b : Int} {T f : Int → Int} (h : mm_LeastE (S 0 9) (me_all S) (mm_ws b T) f) : mm_LeastE (S 0 9) (me_all S) (mm_ws b T) (ms_st S b T) ∧ ∀ v, 0 ≤ v → v < S 0 9 → ms_st S b T v = f v := by
  have h1 : mm_LeastE (S 0 9) (me_all S) (mm_ws b T) (ms_st S b T) := Classical.epsilon_spec (p := fun f => mm_LeastE (S 0 9) (me_all S) (mm_ws b T) f) ⟨f, h⟩
  exact ⟨h1, mm_leastE_unique h1 h⟩
def mu_lay (S : jx_M) (b tr : Int) (T F : Int → Int) : jx_M := fun j k => if j = 0 then (if k = 27 then b else if k = 32 then tr else S 0 k) else
  if 24 ≤ j ∧ j ≤ 27 ∧ 0 ≤ k ∧ k < S 0 9 then (if j = 24 then T k else if j = 25 then F k else b * F k + T k) else S j k
noncomputable def f_lay (S : jx_M) : mR := @ite _ (mm_ready S) (Classical.propDecidable _)
  (if (ms_lay S 61 (mm_lw S) 0).1 = 0 then ((ms_lay S 61 (mm_lw S) 0).2.1, mu_lay S (ms_lay S 61 (mm_lw S) 0).2.1 (ms_lay S 61 (mm_lw S) 0).2.2.1 (ms_lay S 61 (mm_lw S) 0).2.2.2 (ms_st S (ms_lay S 61 (mm_lw S) 0).2.1 (ms_lay S 61 (mm_lw S) 0).2.2.2))
   else if (ms_lay S 61 (mm_lw S) 0).1 = 4 then (-11, mu_no (jx_u S 0 32 (ms_lay S 61 (mm_lw S) 0).2.2.1) 0 (-11)) else (-9, mu_no (jx_u S 0 32 (ms_lay S 61 (mm_lw S) 0).2.2.1) 0 (-9)))
  (-2, mu_no (jx_u S 0 32 0) 0 (-2))
/-- all but scratch and the count of trials -/
def mLf (y : Int) (M M' : jx_M) : Prop := ∀ z i : Int, z ≠ y + 15 → z ≠ y + 16 → z ≠ y + 17 → z ≠ y + 18 → z ≠ y + 28 → z ≠ y + 29 → z ≠ y + 30 → ¬ (z = y ∧ (i = 20 ∨ i = 32)) → M' z i = M z i
theorem mLf_Q {y : Int} {M M' : jx_M} (h : mLf y M M') : mQ (jx_u (mY M y) 0 32 (M' y 32)) (mY M' y) := fun j k a b c d e f => by
  unfold jx_u
  split
  · rename_i q
    rw [q.1, q.2, mY_0]
  · rename_i q
    exact h (y + j) k (by omega) (by omega) (by omega) (by omega) (by omega) (by omega) (by omega) (by omega)
theorem mLf_Fr {y : Int} {M M' : jx_M} (h : mLf y M M') : mFr y M M' := fun z i q => h z i (by omega) (by omega) (by omega) (by omega) (by omega) (by omega) (by omega) (by omega)
theorem mLf_Z {y : Int} {M M' : jx_M} (h : mLf y M M') : mZ (mY M y) (mY M' y) := ⟨fun j a b => funext fun k => h (y + j) k (by omega) (by omega) (by omega) (by omega) (by omega) (by omega) (by omega) (by omega), by rw [mY_0, mY_0]; exact h y 9 (by omega) (by omega) (by omega) (by omega) (by omega) (by omega) (by omega) (by omega), by rw [mY_0, mY_0]; exact h y 15 (by omega) (by omega) (by omega) (by omega) (by omega) (by omega) (by omega) (by omega)⟩
theorem mLf_post {y b : Int} {M M1 M2 : jx_M} {R : Int × Int × (Int → Int)} (h : mLf y M M1) (h' : ms_post y b M1 M2 R) : mLf y M M2 := fun z i a b c d e f g k => (h'.2.2.2.2 z i e f g (fun q => k ⟨q.1, Or.inr q.2⟩)).trans (h z i a b c d e f g k)
theorem mLf_no {y w : Int} {M M' : jx_M} (h : mLf y M M') {g : jx_S} {Po : jx_Po} {r : Int} (hK : mK y g M Po 0 r (mu_no (jx_u (mY M y) 0 32 (M' y 32)) 0 w)) : Po (0, 0, r) g (mu_no M' y w) := by
  refine hK _ ?_ (mFr_no (mLf_Fr h))
  rw [mY_no]
  exact mQ_no (mLf_Q h)
def js_X13_lay : jx_Sp := fun as g M Po => match as with
  | [(73, _, y)] => mB (mY M y) ∧ mK y g M Po 0 (f_lay (mY M y)).1 (f_lay (mY M y)).2
  | _ => False
def cs_X13_lay : jx_Cs := [(630, 1, 0, 0, js_X13_isReady), (372, 2, 0, 0, js_X13_no), (642, 1, 0, 0, js_X13_lowestBeat), (690, 2, 0, 0, js_X13_tries)]
theorem hc_X13_lay {D : jx_D} {l : Launch} : jx_CsOK D l "LoopLaneModel" 5 cs_X13_lay := List.forall_mem_cons.mpr ⟨jc_X13_210 (jt_X13_isReady l) (fun as g M Po (h : js_X13_isReady as g M Po) => by unfold js_X13_isReady at h; split at h <;> first | exact h.elim | exact ⟨_, _, _, rfl, rfl⟩) (by decide), List.forall_mem_cons.mpr ⟨jc_X13_124 (jt_X13_no l) (fun as g M Po (h : js_X13_no as g M Po) => by unfold js_X13_no at h; split at h <;> first | exact h.elim | exact ⟨_, _, _, rfl, rfl⟩) (by decide), List.forall_mem_cons.mpr ⟨jc_X13_214 (jt_X13_lowestBeat l) (fun as g M Po (h : js_X13_lowestBeat as g M Po) => by unfold js_X13_lowestBeat at h; split at h <;> first | exact h.elim | exact ⟨_, _, _, rfl, rfl⟩) (by decide), List.forall_mem_cons.mpr ⟨jc_X13_230 (jt_X13_tries l) (fun as g M Po (h : js_X13_tries as g M Po) => by unfold js_X13_tries at h; split at h <;> first | exact h.elim | exact ⟨_, _, _, rfl, rfl⟩) (by decide), fun _ h => absurd h List.not_mem_nil⟩⟩⟩⟩
set_option maxHeartbeats 4000000 in
theorem jt_X13_lay (l : Launch) : jx_Ct l yX13_lay (ws_ yX13_lay cX13_lay 4 (some .int)) 5 0 0 js_X13_lay := by
  refine jx_Ct_c (rc := 0) (by decide) rfl (fun D as g M Po hS => ?_)
  unfold js_X13_lay at hS
  split at hS
  · rename_i n1 y
    obtain ⟨hB, hK⟩ := hS
    unfold f_lay at hK
    simp only [mK_ite] at hK
    refine ⟨Nat.le_of_ble_eq_true rfl, ?_⟩
    have h9 := hB.1
    rw [mY_0] at h9
    have z0 : mZ (mY M y) (mY (jx_u M y 32 0) y) := by rw [mY_u0]; exact mZ_0 mZ_rf (by decide)
    have e9 : jx_u M y 32 0 y 9 = M y 9 := jx_u_j _ _ _ _ _ _ (by decide)
    have rd := mm_ready_Z z0
    refine jx_runL (o := jo_X13) (cs := cs_X13_lay) (hf := jx_nh) jo_X13_ok hc_X13_lay (jx_HK_nil rfl) (fun p => p == 19) 60 ?_
    simp only [jw, ju, jx_tg, Int.cast_ofNat_Int, Int.reduceAdd, Int.reduceToNat, Nat.reduceAdd, Nat.reduceMul, Nat.reduceBEq, Nat.reduceLeDiff, Int.reduceLE, Int.reduceLT, Int.reduceEq, Int.reduceNeg, Int.reduceSub, Int.reduceMul, not_false_eq_true, true_and, and_true, and_self, Bool.or_false, Bool.false_or, Bool.or_true, Bool.true_or, List.length_nil, List.length_cons, Nat.zero_le, or_true, true_or, Nat.le_refl, ↓reduceIte, Nat.reduceEqDiff, forall_const, false_and, and_false, false_implies, implies_true, not_true_eq_false, or_false, false_or, ne_eq, jd_X13_lay, jf_X13, js_X13_isReady, js_X13_lowestBeat, js_X13_no, js_X13_tries, cs_X13_lay, jx_ck_c]
    rw [rd]
    refine ⟨⟨h9, mB_ofs (mB_Z z0 hB)⟩, fun c => ?_, fun c => ?_⟩
    rotate_left
    · refine mK_of (hK.2 c) ?_ (mFr_u0 (mFr_u (mFr_u0 mFr_rf) (by omega)))
      simp only [mY_u, mY_u0]
      unfold mu_no
      simp only [Int.zero_add]
      rw [show jx_u (mY M y) 0 32 0 23 (-(-2)) = M (y + 23) 2 from jx_u_a _ _ _ _ _ _ (by decide)]
      rfl
    have hE := hK.1 c
    have h0 := c.1
    rw [mY_0] at h0
    have hlr := mm_lw_r hB
    -- the end
    have fill : ∀ (b : Int) (T F : Int → Int) (M2 : jx_M), mLf y M M2 → (∀ v, 0 ≤ v → v < M y 9 → M2 (y + 29) v = T v) → (∀ v, 0 ≤ v → v < M y 9 → M2 (y + 28) v = F v) → mK y g M Po 0 b (mu_lay (mY M y) b (M2 y 32) T F) → ∀ (f k : Nat) (M' : jx_M) (P1 : jx_A), (k : Int) + f = M y 9 →
        (∀ z i : Int, z ≠ y + 24 → z ≠ y + 25 → z ≠ y + 26 → z ≠ y + 27 → ¬ (z = y ∧ i = 27) → M' z i = M2 z i) → M' y 27 = b → (∀ v : Int, 0 ≤ v → v < k → M' (y + 24) v = T v ∧ M' (y + 25) v = F v ∧ M' (y + 26) v = b * F v + T v ∧ M' (y + 27) v = b * F v + T v) → (∀ j v : Int, 24 ≤ j → j ≤ 27 → ¬ (0 ≤ v ∧ v < k) → M' (y + j) v = M2 (y + j) v) → jx_V D l (yX13_lay.cls, cX13_lay, 4, 0, [], 5, 0, 0, yX13_lay.name) Po 82 [(73, n1, y), P1, (0, 0, b), (0, 0, (k : Int))] [] (0, 0) g (M') := by
      intro b T F M2 j1 j2 j3 hE f
      induction f with
      | zero =>
        intro k M' P1 hk k1 k2 k3 k4
        have q9 : M' y 9 = M y 9 := by rw [k1 y 9 (by omega) (by omega) (by omega) (by omega) (by omega)]; exact j1 y 9 (by omega) (by omega) (by omega) (by omega) (by omega) (by omega) (by omega) (by omega)
        refine jx_runL (o := jo_X13) (cs := cs_X13_lay) (hf := jx_nh) jo_X13_ok hc_X13_lay (jx_HK_nil rfl) (fun p => p == 82) 60 ?_
        simp only [jw, ju, jx_tg, Int.cast_ofNat_Int, Int.reduceAdd, Int.reduceToNat, Nat.reduceAdd, Nat.reduceMul, Nat.reduceBEq, Nat.reduceLeDiff, Int.reduceLE, Int.reduceLT, Int.reduceEq, Int.reduceNeg, Int.reduceSub, Int.reduceMul, not_false_eq_true, true_and, and_true, and_self, Bool.or_false, Bool.false_or, Bool.or_true, Bool.true_or, List.length_nil, List.length_cons, Nat.zero_le, or_true, true_or, Nat.le_refl, ↓reduceIte, Nat.reduceEqDiff, forall_const, false_and, and_false, false_implies, implies_true, not_true_eq_false, or_false, false_or, ne_eq, jd_X13_lay, jf_X13, q9, js_X13_isReady, js_X13_lowestBeat, js_X13_no, js_X13_tries, cs_X13_lay, jx_ck_c]
        refine ⟨by omega, fun c => hE M' (fun j i a0 a1 a2 a3 a4 a5 => ?_) (fun z i q => ?_), fun c => by omega⟩
        · unfold mu_lay
          by_cases hj : j = 0
          · subst hj
            rw [if_pos rfl, mY_0]
            by_cases hi : i = 27
            · rw [if_pos hi, hi, k2]
            · rw [if_neg hi, k1 y i (by omega) (by omega) (by omega) (by omega) (by omega)]
              by_cases hi2 : i = 32
              · rw [if_pos hi2, hi2]
              · rw [if_neg hi2, mY_0]
                exact j1 y i (by omega) (by omega) (by omega) (by omega) (by omega) (by omega) (by omega) (by omega)
          · rw [if_neg hj, mY_0]
            by_cases hc : 24 ≤ j ∧ j ≤ 27 ∧ 0 ≤ i ∧ i < M y 9
            · rw [if_pos hc]
              have q := k3 i hc.2.2.1 (by omega)
              by_cases h24 : j = 24
              · rw [if_pos h24, h24]; exact q.1
              · rw [if_neg h24]
                by_cases h25 : j = 25
                · rw [if_pos h25, h25]; exact q.2.1
                · rw [if_neg h25]
                  by_cases h26 : j = 26
                  · rw [h26]; exact q.2.2.1
                  · rw [show j = 27 by omega]; exact q.2.2.2
            · rw [if_neg hc]
              by_cases hj2 : 24 ≤ j ∧ j ≤ 27
              · show M' (y + j) i = M (y + j) i
                rw [k4 j i hj2.1 hj2.2 (by omega)]
                exact j1 _ _ (by omega) (by omega) (by omega) (by omega) (by omega) (by omega) (by omega) (by omega)
              · show M' (y + j) i = M (y + j) i
                rw [k1 _ _ (by omega) (by omega) (by omega) (by omega) (by omega)]
                exact j1 _ _ (by omega) (by omega) (by omega) (by omega) (by omega) (by omega) (by omega) (by omega)
        · rw [k1 z i (by omega) (by omega) (by omega) (by omega) (by omega)]
          exact j1 z i (by omega) (by omega) (by omega) (by omega) (by omega) (by omega) (by omega) (by omega)
      | succ f ih =>
        intro k M' P1 hk k1 k2 k3 k4
        have q9 : M' y 9 = M y 9 := by rw [k1 y 9 (by omega) (by omega) (by omega) (by omega) (by omega)]; exact j1 y 9 (by omega) (by omega) (by omega) (by omega) (by omega) (by omega) (by omega) (by omega)
        have q28 : M' (y + 28) k = F k := by rw [k1 _ _ (by omega) (by omega) (by omega) (by omega) (by omega)]; exact j3 k (by omega) (by omega)
        have q29 : M' (y + 29) k = T k := by rw [k1 _ _ (by omega) (by omega) (by omega) (by omega) (by omega)]; exact j2 k (by omega) (by omega)
        refine jx_runL (o := jo_X13) (cs := cs_X13_lay) (hf := jx_nh) jo_X13_ok hc_X13_lay (jx_HK_nil rfl) (fun p => p == 82) 60 ?_
        simp only [jw, ju, jx_tg, Int.cast_ofNat_Int, Int.reduceAdd, Int.reduceToNat, Nat.reduceAdd, Nat.reduceMul, Nat.reduceBEq, Nat.reduceLeDiff, Int.reduceLE, Int.reduceLT, Int.reduceEq, Int.reduceNeg, Int.reduceSub, Int.reduceMul, not_false_eq_true, true_and, and_true, and_self, Bool.or_false, Bool.false_or, Bool.or_true, Bool.true_or, List.length_nil, List.length_cons, Nat.zero_le, or_true, true_or, Nat.le_refl, ↓reduceIte, Nat.reduceEqDiff, forall_const, false_and, and_false, false_implies, implies_true, not_true_eq_false, or_false, false_or, ne_eq, jd_X13_lay, jf_X13, q9, q28, q29, js_X13_isReady, js_X13_lowestBeat, js_X13_no, js_X13_tries, cs_X13_lay, jx_ck_c]
        refine ⟨by omega, fun c => by omega, fun c => ⟨by omega, by omega, by omega, by omega, by omega, by omega, by omega, by omega, by omega, ?_⟩⟩
        refine ih (k + 1) _ _ (by omega) (fun z i a0 a1 a2 a3 a4 => ?_) ?_ (fun v v0 v1 => ?_) (fun j v a0 a1 a2 => ?_)
        · rw [jx_u_a _ _ _ _ _ _ a3, jx_u_a _ _ _ _ _ _ a2, jx_u_a _ _ _ _ _ _ a1, jx_u_a _ _ _ _ _ _ a0]
          exact k1 z i a0 a1 a2 a3 a4
        · rw [jx_u_a _ _ _ _ _ _ (show y ≠ y + 27 by omega), jx_u_a _ _ _ _ _ _ (show y ≠ y + 26 by omega), jx_u_a _ _ _ _ _ _ (show y ≠ y + 25 by omega), jx_u_a _ _ _ _ _ _ (show y ≠ y + 24 by omega)]
          exact k2
        · simp only [jx_u]
          by_cases hv : v = k
          · subst hv
            simp
          · have := k3 v v0 (by omega)
            simp [hv]
            exact this
        · simp only [jx_u]
          rw [if_neg (by omega), if_neg (by omega), if_neg (by omega), if_neg (by omega)]
          exact k4 j v a0 a1 (by omega)
    have at54 : ∀ (R : Int × Int × Int × (Int → Int)) (M2 : jx_M), R = ms_lay (mY M y) 61 (mm_lw (mY M y)) 0 → mLf y M M2 → M2 y 32 = R.2.2.1 → (R.1 = 0 ∨ R.1 = 3 ∨ R.1 = 4) → (R.1 = 0 → (∀ v, 0 ≤ v → v < M y 9 → M2 (y + 29) v = R.2.2.2 v) ∧ mm_LeastE (M y 9) (me_all (mY M y)) (mm_ws R.2.1 R.2.2.2) (M2 (y + 28))) → jx_V D l (yX13_lay.cls, cX13_lay, 4, 0, [], 5, 0, 0, yX13_lay.name) Po 54 [(73, n1, y), (0, 0, R.1), (0, 0, R.2.1), (5, 0, 0)] [] (0, 0) g (M2) := by
      intro R M2 hR j1 j2 j3 j4
      rw [← hR, ← j2] at hE
      rcases j3 with j3 | j3 | j3
      · obtain ⟨i1, i2⟩ := j4 j3
        have i3 := (ms_st_eq (S := mY M y) (b := R.2.1) (T := R.2.2.2) (f := M2 (y + 28)) (by rw [mY_0]; exact i2)).2
        rw [mY_0] at i3
        rw [j3]
        refine jx_runL (o := jo_X13) (cs := cs_X13_lay) (hf := jx_nh) jo_X13_ok hc_X13_lay (jx_HK_nil rfl) (fun p => p == 82) 60 ?_
        simp only [jw, ju, jx_tg, Int.cast_ofNat_Int, Int.reduceAdd, Int.reduceToNat, Nat.reduceAdd, Nat.reduceMul, Nat.reduceBEq, Nat.reduceLeDiff, Int.reduceLE, Int.reduceLT, Int.reduceEq, Int.reduceNeg, Int.reduceSub, Int.reduceMul, not_false_eq_true, true_and, and_true, and_self, Bool.or_false, Bool.false_or, Bool.or_true, Bool.true_or, List.length_nil, List.length_cons, Nat.zero_le, or_true, true_or, Nat.le_refl, ↓reduceIte, Nat.reduceEqDiff, forall_const, false_and, and_false, false_implies, implies_true, not_true_eq_false, or_false, false_or, ne_eq, jd_X13_lay, jf_X13, js_X13_isReady, js_X13_lowestBeat, js_X13_no, js_X13_tries, cs_X13_lay, jx_ck_c]
        exact fill R.2.1 R.2.2.2 _ M2 j1 i1 (fun v v0 v1 => (i3 v v0 v1).symm) (hE.1 j3) (M y 9).toNat 0 _ _ (by omega) (fun z i a0 a1 a2 a3 a4 => if_neg a4) (jx_u_eq _ _ _ _) (fun v v0 v1 => by omega) (fun j v a0 a1 a2 => jx_u_a _ _ _ _ _ _ (by omega))
      · rw [j3]
        refine jx_runL (o := jo_X13) (cs := cs_X13_lay) (hf := jx_nh) jo_X13_ok hc_X13_lay (jx_HK_nil rfl) (fun p => p == 82) 60 ?_
        simp only [jw, ju, jx_tg, Int.cast_ofNat_Int, Int.reduceAdd, Int.reduceToNat, Nat.reduceAdd, Nat.reduceMul, Nat.reduceBEq, Nat.reduceLeDiff, Int.reduceLE, Int.reduceLT, Int.reduceEq, Int.reduceNeg, Int.reduceSub, Int.reduceMul, not_false_eq_true, true_and, and_true, and_self, Bool.or_false, Bool.false_or, Bool.or_true, Bool.true_or, List.length_nil, List.length_cons, Nat.zero_le, or_true, true_or, Nat.le_refl, ↓reduceIte, Nat.reduceEqDiff, forall_const, false_and, and_false, false_implies, implies_true, not_true_eq_false, or_false, false_or, ne_eq, jd_X13_lay, jf_X13, js_X13_isReady, js_X13_lowestBeat, js_X13_no, js_X13_tries, cs_X13_lay, jx_ck_c]
        exact mLf_no j1 ((hE.2 (by omega)).2 (by omega))
      · rw [j3]
        refine jx_runL (o := jo_X13) (cs := cs_X13_lay) (hf := jx_nh) jo_X13_ok hc_X13_lay (jx_HK_nil rfl) (fun p => p == 82) 60 ?_
        simp only [jw, ju, jx_tg, Int.cast_ofNat_Int, Int.reduceAdd, Int.reduceToNat, Nat.reduceAdd, Nat.reduceMul, Nat.reduceBEq, Nat.reduceLeDiff, Int.reduceLE, Int.reduceLT, Int.reduceEq, Int.reduceNeg, Int.reduceSub, Int.reduceMul, not_false_eq_true, true_and, and_true, and_self, Bool.or_false, Bool.false_or, Bool.or_true, Bool.true_or, List.length_nil, List.length_cons, Nat.zero_le, or_true, true_or, Nat.le_refl, ↓reduceIte, Nat.reduceEqDiff, forall_const, false_and, and_false, false_implies, implies_true, not_true_eq_false, or_false, false_or, ne_eq, jd_X13_lay, jf_X13, js_X13_isReady, js_X13_lowestBeat, js_X13_no, js_X13_tries, cs_X13_lay, jx_ck_c]
        exact mLf_no j1 ((hE.2 (by omega)).1 j3)
    have loop : ∀ (f : Nat) (b tr : Int) (M2 : jx_M), 1 ≤ b → 61 - b ≤ f → b ≤ 100000 → mLf y M M2 → mm_std y (mY M y) M2 → mm_eok 16 y M2 → M2 y 32 = tr → (0 ≤ tr ∧ tr ≤ 3000) → ms_lay (mY M y) 61 (mm_lw (mY M y)) 0 = ms_lay (mY M y) f b tr → jx_V D l (yX13_lay.cls, cX13_lay, 4, 0, [], 5, 0, 0, yX13_lay.name) Po 26 [(73, n1, y), (0, 0, 3), (0, 0, b), (5, 0, 0)] [] (0, 0) g (M2) := by
      intro f
      induction f with
      | zero =>
        intro b tr M2 hb hf hb2 j1 j2 j3 j4 j5 hR
        refine jx_runL (o := jo_X13) (cs := cs_X13_lay) (hf := jx_nh) jo_X13_ok hc_X13_lay (jx_HK_nil rfl) (fun p => p == 37 || p == 54) 60 ?_
        simp only [jw, ju, jx_tg, Int.cast_ofNat_Int, Int.reduceAdd, Int.reduceToNat, Nat.reduceAdd, Nat.reduceMul, Nat.reduceBEq, Nat.reduceLeDiff, Int.reduceLE, Int.reduceLT, Int.reduceEq, Int.reduceNeg, Int.reduceSub, Int.reduceMul, not_false_eq_true, true_and, and_true, and_self, Bool.or_false, Bool.false_or, Bool.or_true, Bool.true_or, List.length_nil, List.length_cons, Nat.zero_le, or_true, true_or, Nat.le_refl, ↓reduceIte, Nat.reduceEqDiff, forall_const, false_and, and_false, false_implies, implies_true, not_true_eq_false, or_false, false_or, ne_eq, jd_X13_lay, jf_X13, js_X13_isReady, js_X13_lowestBeat, js_X13_no, js_X13_tries, cs_X13_lay, jx_ck_c]
        exact ⟨by omega, fun c2 => at54 (3, b, tr, fun _ => 0) M2 hR.symm j1 j4 (Or.inr (Or.inl rfl)) (fun z => absurd z (show ¬ (3 : Int) = 0 by decide)), fun c2 => by omega⟩
      | succ f ih =>
        intro b tr M2 hb hf hb2 j1 j2 j3 j4 j5 hR
        unfold ms_lay at hR
        by_cases hb3 : 60 < b
        · have hR2 : ms_lay (mY M y) 61 (mm_lw (mY M y)) 0 = (3, b, tr, fun _ => 0) := by
            rw [show ms_lay (mY M y) 61 (mm_lw (mY M y)) 0 = _ from hR, if_pos hb3]
          refine jx_runL (o := jo_X13) (cs := cs_X13_lay) (hf := jx_nh) jo_X13_ok hc_X13_lay (jx_HK_nil rfl) (fun p => p == 37 || p == 54) 60 ?_
          simp only [jw, ju, jx_tg, Int.cast_ofNat_Int, Int.reduceAdd, Int.reduceToNat, Nat.reduceAdd, Nat.reduceMul, Nat.reduceBEq, Nat.reduceLeDiff, Int.reduceLE, Int.reduceLT, Int.reduceEq, Int.reduceNeg, Int.reduceSub, Int.reduceMul, not_false_eq_true, true_and, and_true, and_self, Bool.or_false, Bool.false_or, Bool.or_true, Bool.true_or, List.length_nil, List.length_cons, Nat.zero_le, or_true, true_or, Nat.le_refl, ↓reduceIte, Nat.reduceEqDiff, forall_const, false_and, and_false, false_implies, implies_true, not_true_eq_false, or_false, false_or, ne_eq, jd_X13_lay, jf_X13, js_X13_isReady, js_X13_lowestBeat, js_X13_no, js_X13_tries, cs_X13_lay, jx_ck_c]
          exact ⟨by omega, fun c2 => at54 (3, b, tr, fun _ => 0) M2 hR2.symm j1 j4 (Or.inr (Or.inl rfl)) (fun z => absurd z (show ¬ (3 : Int) = 0 by decide)), fun c2 => by omega⟩
        · have zz := mLf_Z j1
          have q9 : M2 y 9 = M y 9 := by have := zz.2.1; rw [mY_0, mY_0] at this; exact this
          have B2 := mB_Z zz hB
          have hst : mm_std y (mY M2 y) M2 := by unfold mm_std; rw [me_all_Z zz]; exact j2
          refine jx_runL (o := jo_X13) (cs := cs_X13_lay) (hf := jx_nh) jo_X13_ok hc_X13_lay (jx_HK_nil rfl) (fun p => p == 37 || p == 54) 60 ?_
          simp only [jw, ju, jx_tg, Int.cast_ofNat_Int, Int.reduceAdd, Int.reduceToNat, Nat.reduceAdd, Nat.reduceMul, Nat.reduceBEq, Nat.reduceLeDiff, Int.reduceLE, Int.reduceLT, Int.reduceEq, Int.reduceNeg, Int.reduceSub, Int.reduceMul, not_false_eq_true, true_and, and_true, and_self, Bool.or_false, Bool.false_or, Bool.or_true, Bool.true_or, List.length_nil, List.length_cons, Nat.zero_le, or_true, true_or, Nat.le_refl, ↓reduceIte, Nat.reduceEqDiff, forall_const, false_and, and_false, false_implies, implies_true, not_true_eq_false, or_false, false_or, ne_eq, jd_X13_lay, jf_X13, js_X13_isReady, js_X13_lowestBeat, js_X13_no, js_X13_tries, cs_X13_lay, jx_ck_c]
          refine ⟨by omega, fun c2 => by omega, fun c2 => ?_⟩
          refine jx_runL (o := jo_X13) (cs := cs_X13_lay) (hf := jx_nh) jo_X13_ok hc_X13_lay (jx_HK_nil rfl) (fun p => p == 26) 60 ?_
          simp only [jw, ju, jx_tg, Int.cast_ofNat_Int, Int.reduceAdd, Int.reduceToNat, Nat.reduceAdd, Nat.reduceMul, Nat.reduceBEq, Nat.reduceLeDiff, Int.reduceLE, Int.reduceLT, Int.reduceEq, Int.reduceNeg, Int.reduceSub, Int.reduceMul, not_false_eq_true, true_and, and_true, and_self, Bool.or_false, Bool.false_or, Bool.or_true, Bool.true_or, List.length_nil, List.length_cons, Nat.zero_le, or_true, true_or, Nat.le_refl, ↓reduceIte, Nat.reduceEqDiff, forall_const, false_and, and_false, false_implies, implies_true, not_true_eq_false, or_false, false_or, ne_eq, jd_X13_lay, jf_X13, js_X13_isReady, js_X13_lowestBeat, js_X13_no, js_X13_tries, cs_X13_lay, jx_ck_c]
          rw [ms_go_Z zz, j4]
          refine ⟨⟨by omega, by omega, j5, j3, hst, mB_up B2, B2.2.2.2.2.2⟩, fun M3 k => ?_⟩
          have k' := k
          obtain ⟨p1, p2, p3, p4, p5⟩ := k
          have j1' := mLf_post j1 k'
          have st3 : mm_std y (mY M y) M3 ∧ mm_eok 16 y M3 := by
            have a15 : M3 (y + 15) = M2 (y + 15) := funext fun i => p5 _ i (by omega) (by omega) (by omega) (by omega)
            have a16 : M3 (y + 16) = M2 (y + 16) := funext fun i => p5 _ i (by omega) (by omega) (by omega) (by omega)
            have a17 : M3 (y + 17) = M2 (y + 17) := funext fun i => p5 _ i (by omega) (by omega) (by omega) (by omega)
            have a18 : M3 (y + 18) = M2 (y + 18) := funext fun i => p5 _ i (by omega) (by omega) (by omega) (by omega)
            have a20 : M3 y 20 = M2 y 20 := p5 _ _ (by omega) (by omega) (by omega) (by omega)
            unfold mm_std mm_eok
            rw [a15, a16, a17, a18, a20]
            exact ⟨j2, j3⟩
          refine ⟨by omega, fun c3 => ?_, fun c3 => ?_⟩
          · have hR2 : ms_lay (mY M y) 61 (mm_lw (mY M y)) 0 = ((ms_go (mY M y) b 61000 0 (fun _ => 0) tr).1, b, (ms_go (mY M y) b 61000 0 (fun _ => 0) tr).2.1, (ms_go (mY M y) b 61000 0 (fun _ => 0) tr).2.2) := by
              rw [show ms_lay (mY M y) 61 (mm_lw (mY M y)) 0 = _ from hR, if_neg hb3, if_neg c3]
            refine jx_runL (o := jo_X13) (cs := cs_X13_lay) (hf := jx_nh) jo_X13_ok hc_X13_lay (jx_HK_nil rfl) (fun p => p == 54) 60 ?_
            simp only [jw, ju, jx_tg, Int.cast_ofNat_Int, Int.reduceAdd, Int.reduceToNat, Nat.reduceAdd, Nat.reduceMul, Nat.reduceBEq, Nat.reduceLeDiff, Int.reduceLE, Int.reduceLT, Int.reduceEq, Int.reduceNeg, Int.reduceSub, Int.reduceMul, not_false_eq_true, true_and, and_true, and_self, Bool.or_false, Bool.false_or, Bool.or_true, Bool.true_or, List.length_nil, List.length_cons, Nat.zero_le, or_true, true_or, Nat.le_refl, ↓reduceIte, Nat.reduceEqDiff, forall_const, false_and, and_false, false_implies, implies_true, not_true_eq_false, or_false, false_or, ne_eq, jd_X13_lay, jf_X13, js_X13_isReady, js_X13_lowestBeat, js_X13_no, js_X13_tries, cs_X13_lay, jx_ck_c]
            refine ⟨by omega, fun c4 => by omega, fun c4 => ⟨by omega, fun c5 => at54 ((ms_go (mY M y) b 61000 0 (fun _ => 0) tr).1, b, (ms_go (mY M y) b 61000 0 (fun _ => 0) tr).2.1, (ms_go (mY M y) b 61000 0 (fun _ => 0) tr).2.2) M3 hR2.symm j1' p1 p3 (fun z => ?_), fun c5 => absurd c3 c5⟩⟩
            obtain ⟨w1, w2, w3⟩ := p4 z
            rw [q9, me_all_Z zz] at w2
            rw [q9] at w1
            exact ⟨fun v v0 v1 => (w1 v v0 v1).1, w2⟩
          · have c3 : (ms_go (mY M y) b 61000 0 (fun _ => 0) tr).1 = 3 := by omega
            have hR2 : ms_lay (mY M y) 61 (mm_lw (mY M y)) 0 = ms_lay (mY M y) f (b + 1) (ms_go (mY M y) b 61000 0 (fun _ => 0) tr).2.1 := by
              rw [show ms_lay (mY M y) 61 (mm_lw (mY M y)) 0 = _ from hR, if_neg hb3, if_pos c3]
            rw [c3]
            exact ih (b + 1) _ M3 (by omega) (by omega) (by omega) j1' st3.1 st3.2 p1 p2 hR2
    refine jx_runL (o := jo_X13) (cs := cs_X13_lay) (hf := jx_nh) jo_X13_ok hc_X13_lay (jx_HK_nil rfl) (fun p => p == 26) 60 ?_
    simp only [jw, ju, jx_tg, Int.cast_ofNat_Int, Int.reduceAdd, Int.reduceToNat, Nat.reduceAdd, Nat.reduceMul, Nat.reduceBEq, Nat.reduceLeDiff, Int.reduceLE, Int.reduceLT, Int.reduceEq, Int.reduceNeg, Int.reduceSub, Int.reduceMul, not_false_eq_true, true_and, and_true, and_self, Bool.or_false, Bool.false_or, Bool.or_true, Bool.true_or, List.length_nil, List.length_cons, Nat.zero_le, or_true, true_or, Nat.le_refl, ↓reduceIte, Nat.reduceEqDiff, forall_const, false_and, and_false, false_implies, implies_true, not_true_eq_false, or_false, false_or, ne_eq, jd_X13_lay, jf_X13, js_X13_isReady, js_X13_lowestBeat, js_X13_no, js_X13_tries, cs_X13_lay, jx_ck_c]
    rw [mm_lw_Z z0]
    refine ⟨⟨mB_Z z0 hB, by omega⟩, fun M2 k => ?_⟩
    have f32 : M2 y 32 = 0 := by rw [k.2.2 y 32 (by omega) (by omega) (by omega) (by omega) (by omega) (by omega), jx_u_eq]
    have kf : mLf y M M2 := fun z i a0 a1 a2 a3 a4 a5 a6 a7 => by
      rw [k.2.2 z i a0 a1 a2 a3 a4 (fun q => a7 ⟨q.1, Or.inl q.2⟩)]
      exact if_neg (fun q => a7 ⟨q.1, Or.inr q.2⟩)
    have kst : mm_std y (mY M y) M2 := by have := k.1; unfold mm_std at this ⊢; rw [me_all_Z z0] at this; exact this
    exact loop 61 (mm_lw (mY M y)) 0 M2 (by omega) (by omega) (by omega) kf kst k.2.1.2 f32 (by omega) rfl
  · exact hS.elim
