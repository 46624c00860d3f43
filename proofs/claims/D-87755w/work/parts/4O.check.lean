/-! the reference: check -/
set_option maxRecDepth 100000
/-- one edge comes ahead of another -/
def mm_lx (a b t d a' b' t' d' : Int) : Prop := b < b' ∨ (b = b' ∧ (a < a' ∨ (a = a' ∧ (t < t' ∨ (t = t' ∧ d < d')))))
theorem mm_lx_tri {a b t d a' b' t' d' : Int} (h : ¬ mm_lx a b t d a' b' t' d') (h' : ¬ mm_lx a' b' t' d' a b t d) : a = a' ∧ b = b' ∧ t = t' ∧ d = d' := by
  unfold mm_lx at h h'
  omega
theorem mm_lx_tr {a b t d a' b' t' d' a2 b2 t2 d2 : Int} (h : ¬ mm_lx a b t d a' b' t' d') (h' : mm_lx a2 b2 t2 d2 a' b' t' d') : ¬ mm_lx a b t d a2 b2 t2 d2 := by
  unfold mm_lx at *
  omega
def js_X13_isAhead : jx_Sp := fun as g M Po => match as with
  | [(73, _, y), (0, _, e)] => ((0 ≤ e ∧ e < 704) ∧ (jx_r (M (y + 31) 0) ∧ jx_r (M (y + 31) 1) ∧ jx_r (M (y + 31) 2) ∧ jx_r (M (y + 31) 3)) ∧ (jx_r (M (y + 15) e) ∧ jx_r (M (y + 16) e) ∧ jx_r (M (y + 17) e) ∧ jx_r (M (y + 18) e))) ∧
      ((M (y + 31) 1 < 0 ∨ mm_lx (M (y + 15) e) (M (y + 16) e) (M (y + 17) e) (M (y + 18) e) (M (y + 31) 0) (M (y + 31) 1) (M (y + 31) 2) (M (y + 31) 3)) → Po (0, 0, 1) g M) ∧
      (¬ (M (y + 31) 1 < 0 ∨ mm_lx (M (y + 15) e) (M (y + 16) e) (M (y + 17) e) (M (y + 18) e) (M (y + 31) 0) (M (y + 31) 1) (M (y + 31) 2) (M (y + 31) 3)) → Po (0, 0, 0) g M)
  | _ => False
set_option maxHeartbeats 4000000 in
theorem jt_X13_isAhead (l : Launch) : jx_Ct l yX13_isAhead (ws_ yX13_isAhead cX13_isAhead 2 (some .boolean)) 0 0 0 js_X13_isAhead := by
  refine jx_Ct_c (rc := 4) (by decide) rfl (fun D as g M Po hS => ?_)
  unfold js_X13_isAhead at hS
  split at hS
  · rename_i n1 y n2 e
    obtain ⟨⟨h1, ⟨w0, w1, w2, w3⟩, ⟨e0, e1, e2, e3⟩⟩, hP1, hP0⟩ := hS
    unfold mm_lx at hP1 hP0
    refine ⟨Nat.le_of_ble_eq_true rfl, ?_⟩
    have at90 : M (y + 31) 1 ≥ 0 → M (y + 16) e = M (y + 31) 1 → M (y + 15) e = M (y + 31) 0 → jx_V D l (yX13_isAhead.cls, cX13_isAhead, 2, 4, [], 0, 0, 0, yX13_isAhead.name) Po 90 [(73, n1, y), (0, n2, e)] [] (0, 0) g (M) := by
      intro c1 c2 c3
      refine jx_runL (o := jo_X13) (cs := []) (hf := jx_nh) jo_X13_ok jx_cs0 (jx_HK_nil rfl) (fun _ => false) 60 ?_
      simp only [jw, ju, jx_tg, Int.cast_ofNat_Int, Int.reduceAdd, Int.reduceToNat, Nat.reduceAdd, Nat.reduceMul, Nat.reduceBEq, Nat.reduceLeDiff, Int.reduceLE, Int.reduceLT, Int.reduceEq, Int.reduceNeg, Int.reduceSub, Int.reduceMul, not_false_eq_true, true_and, and_true, and_self, Bool.or_false, Bool.false_or, Bool.or_true, Bool.true_or, List.length_nil, List.length_cons, Nat.zero_le, or_true, true_or, Nat.le_refl, ↓reduceIte, Nat.reduceEqDiff, forall_const, false_and, and_false, false_implies, implies_true, not_true_eq_false, or_false, false_or, ne_eq, jd_X13_isAhead, jf_X13]
      refine ⟨h1, ⟨e2, w2⟩, fun c => ⟨h1, ⟨e3, w3⟩, fun c4 => hP0 (by omega), fun c4 => hP1 (by omega)⟩, fun c => ⟨h1, ⟨e2, w2⟩, fun c4 => hP0 (by omega), fun c4 => hP1 (by omega)⟩⟩
    have at54 : M (y + 31) 1 ≥ 0 → M (y + 16) e = M (y + 31) 1 → jx_V D l (yX13_isAhead.cls, cX13_isAhead, 2, 4, [], 0, 0, 0, yX13_isAhead.name) Po 54 [(73, n1, y), (0, n2, e)] [] (0, 0) g (M) := by
      intro c1 c2
      refine jx_runL (o := jo_X13) (cs := []) (hf := jx_nh) jo_X13_ok jx_cs0 (jx_HK_nil rfl) (fun p => p == 90) 60 ?_
      simp only [jw, ju, jx_tg, Int.cast_ofNat_Int, Int.reduceAdd, Int.reduceToNat, Nat.reduceAdd, Nat.reduceMul, Nat.reduceBEq, Nat.reduceLeDiff, Int.reduceLE, Int.reduceLT, Int.reduceEq, Int.reduceNeg, Int.reduceSub, Int.reduceMul, not_false_eq_true, true_and, and_true, and_self, Bool.or_false, Bool.false_or, Bool.or_true, Bool.true_or, List.length_nil, List.length_cons, Nat.zero_le, or_true, true_or, Nat.le_refl, ↓reduceIte, Nat.reduceEqDiff, forall_const, false_and, and_false, false_implies, implies_true, not_true_eq_false, or_false, false_or, ne_eq, jd_X13_isAhead, jf_X13]
      refine ⟨h1, ⟨e0, w0⟩, fun c => at90 c1 c2 c, fun c => ⟨h1, ⟨e0, w0⟩, fun c4 => hP0 (by omega), fun c4 => hP1 (by omega)⟩⟩
    have at24 : ¬ (M (y + 31) 1 ≥ 0 ∧ M (y + 16) e = M (y + 31) 1) → jx_V D l (yX13_isAhead.cls, cX13_isAhead, 2, 4, [], 0, 0, 0, yX13_isAhead.name) Po 24 [(73, n1, y), (0, n2, e)] [] (0, 0) g (M) := by
      intro c1
      refine jx_runL (o := jo_X13) (cs := []) (hf := jx_nh) jo_X13_ok jx_cs0 (jx_HK_nil rfl) (fun _ => false) 60 ?_
      simp only [jw, ju, jx_tg, Int.cast_ofNat_Int, Int.reduceAdd, Int.reduceToNat, Nat.reduceAdd, Nat.reduceMul, Nat.reduceBEq, Nat.reduceLeDiff, Int.reduceLE, Int.reduceLT, Int.reduceEq, Int.reduceNeg, Int.reduceSub, Int.reduceMul, not_false_eq_true, true_and, and_true, and_self, Bool.or_false, Bool.false_or, Bool.or_true, Bool.true_or, List.length_nil, List.length_cons, Nat.zero_le, or_true, true_or, Nat.le_refl, ↓reduceIte, Nat.reduceEqDiff, forall_const, false_and, and_false, false_implies, implies_true, not_true_eq_false, or_false, false_or, ne_eq, jd_X13_isAhead, jf_X13]
      refine ⟨w1, fun c => hP1 (by omega), fun c => ⟨h1, ⟨e1, w1⟩, fun c4 => hP0 (by omega), fun c4 => hP1 (by omega)⟩⟩
    refine jx_runL (o := jo_X13) (cs := []) (hf := jx_nh) jo_X13_ok jx_cs0 (jx_HK_nil rfl) (fun p => p == 24 || p == 54) 60 ?_
    simp only [jw, ju, jx_tg, Int.cast_ofNat_Int, Int.reduceAdd, Int.reduceToNat, Nat.reduceAdd, Nat.reduceMul, Nat.reduceBEq, Nat.reduceLeDiff, Int.reduceLE, Int.reduceLT, Int.reduceEq, Int.reduceNeg, Int.reduceSub, Int.reduceMul, not_false_eq_true, true_and, and_true, and_self, Bool.or_false, Bool.false_or, Bool.or_true, Bool.true_or, List.length_nil, List.length_cons, Nat.zero_le, or_true, true_or, Nat.le_refl, ↓reduceIte, Nat.reduceEqDiff, forall_const, false_and, and_false, false_implies, implies_true, not_true_eq_false, or_false, false_or, ne_eq, jd_X13_isAhead, jf_X13]
    exact ⟨w1, fun c => at24 (by omega), fun c => ⟨h1, ⟨e1, w1⟩, fun c2 => at54 (by omega) c2, fun c2 => at24 (by omega)⟩⟩
  · exact hS.elim
/-- what is wrong with begins as forged -/
def me_bad (S : jx_M) (a b t d : Int) : Prop := me_all S a b t d ∧ S 27 b + S 0 27 * d < S 27 a + t
def mm_lb (S : jx_M) (a b t d : Int) : Prop := me_bad S a b t d ∧ ∀ a' b' t' d', me_bad S a' b' t' d' → ¬ mm_lx a' b' t' d' a b t d
noncomputable def mm_bq (S : jx_M) : Int × Int × Int × Int := Classical.epsilon (fun q : Int × Int × Int × Int => mm_lb S q.1 q.2.1 q.2.2.1 q.2.2.2)
theorem mm_bq_eq {S : jx_M} {a b t d : Int} (h : mm_lb S a b t d) : mm_bq S = (a, b, t, d) := by
  have h1 : mm_lb S (mm_bq S).1 (mm_bq S).2.1 (mm_bq S).2.2.1 (mm_bq S).2.2.2 := Classical.epsilon_spec (p := fun q : Int × Int × Int × Int => mm_lb S q.1 q.2.1 q.2.2.1 q.2.2.2) ⟨(a, b, t, d), h⟩
  obtain ⟨e1, e2, e3, e4⟩ := mm_lx_tri (h.2 _ _ _ _ h1.1) (h1.2 _ _ _ _ h.1)
  rw [← e1, ← e2, ← e3, ← e4]
def mu_w4 (S : jx_M) (q : Int × Int × Int × Int) : jx_M := jx_u (jx_u (jx_u (jx_u S 31 0 q.1) 31 1 q.2.1) 31 2 q.2.2.1) 31 3 q.2.2.2
def mm_over (S : jx_M) (c : Int) : Prop := c % 60 < S 0 27 ∧ S 10 (c / 60) < mm_fill S (S 27) (c / 60) (c % 60)
def mu_w2 (S : jx_M) (c : Int) : jx_M := jx_u (jx_u S 31 4 (c / 60)) 31 5 (c % 60)
noncomputable def f_check (S : jx_M) : mR := if S 0 27 = 0 then mno (-2) S else @ite _ (∃ a b t d, me_bad S a b t d) (Classical.propDecidable _) (1, mu_w4 (mu_unwrong S 0) (mm_bq S))
  (if mm_fst (mm_over S) (-1) 360 0 = -1 then (0, mu_unwrong S 0) else (2, mu_w2 (mu_unwrong S 0) (mm_fst (mm_over S) (-1) 360 0)))
theorem mY_unwrong {M : jx_M} {y : Int} : mY (mu_unwrong M y) y = mu_unwrong (mY M y) 0 := by
  unfold mu_unwrong
  simp only [mY_u, Int.zero_add]
theorem mFr_unwrong {M : jx_M} {y : Int} : mFr y M (mu_unwrong M y) := mFr_u (mFr_u (mFr_u (mFr_u (mFr_u (mFr_u mFr_rf (by omega)) (by omega)) (by omega)) (by omega)) (by omega)) (by omega)
theorem mm_fill_Q {S S' : jx_M} (h3 : S' 3 = S 3) (h4 : S' 4 = S 4) (h9 : S' 0 9 = S 0 9) (h27 : S' 0 27 = S 0 27) (A : Int → Int) (k t : Int) : mm_fill S' A k t = mm_fill S A k t := by
  unfold mm_fill
  rw [h9, show mm_fa S' A k t = mm_fa S A k t by funext a; unfold mm_fa; rw [h3, h4, h27]]
theorem mm_fill_r {S : jx_M} {A : Int → Int} {k t : Int} (h : 0 ≤ S 0 9 ∧ S 0 9 ≤ 16) : 0 ≤ mm_fill S A k t ∧ mm_fill S A k t ≤ 128 := by
  have := mm_sum_r (mm_fa S A k t) 8 (by omega) (S 0 9).toNat (fun v _ _ => mm_fa_r)
  unfold mm_fill
  omega
def js_X13_check : jx_Sp := fun as g M Po => match as with
  | [(73, _, y)] => (mB (mY M y) ∧ (0 ≤ M y 27 ∧ M y 27 ≤ 60) ∧ (M y 27 ≠ 0 → ∀ a, 0 ≤ a → a < M y 9 → 0 ≤ M (y + 27) a ∧ M (y + 27) a ≤ 1000000)) ∧ mK y g M Po 0 (f_check (mY M y)).1 (f_check (mY M y)).2
  | _ => False
def cs_X13_check : jx_Cs := [(372, 2, 0, 0, js_X13_no), (333, 1, 0, 0, js_X13_unwrong), (531, 1, 0, 0, js_X13_gather), (729, 2, 0, 0, js_X13_isAhead), (738, 3, 0, 0, js_X13_filledAs)]
theorem hc_X13_check {D : jx_D} {l : Launch} : jx_CsOK D l "LoopLaneModel" 3 cs_X13_check := List.forall_mem_cons.mpr ⟨jc_X13_124 (jt_X13_no l) (fun as g M Po (h : js_X13_no as g M Po) => by unfold js_X13_no at h; split at h <;> first | exact h.elim | exact ⟨_, _, _, rfl, rfl⟩) (by decide), List.forall_mem_cons.mpr ⟨jc_X13_111 (jt_X13_unwrong l) (fun as g M Po (h : js_X13_unwrong as g M Po) => by unfold js_X13_unwrong at h; split at h <;> first | exact h.elim | exact ⟨_, _, _, rfl, rfl⟩) (by decide), List.forall_mem_cons.mpr ⟨jc_X13_177 (jt_X13_gather l) (fun as g M Po (h : js_X13_gather as g M Po) => by unfold js_X13_gather at h; split at h <;> first | exact h.elim | exact ⟨_, _, _, rfl, rfl⟩) (by decide), List.forall_mem_cons.mpr ⟨jc_X13_243 (jt_X13_isAhead l) (fun as g M Po (h : js_X13_isAhead as g M Po) => by unfold js_X13_isAhead at h; split at h <;> first | exact h.elim | exact ⟨_, _, _, rfl, rfl⟩) (by decide), List.forall_mem_cons.mpr ⟨jc_X13_246 (jt_X13_filledAs l) (fun as g M Po (h : js_X13_filledAs as g M Po) => by unfold js_X13_filledAs at h; split at h <;> first | exact h.elim | exact ⟨_, _, _, rfl, rfl⟩) (by decide), fun _ h => absurd h List.not_mem_nil⟩⟩⟩⟩⟩
set_option maxHeartbeats 4000000 in
theorem jt_X13_check (l : Launch) : jx_Ct l yX13_check (ws_ yX13_check cX13_check 3 (some .int)) 3 0 0 js_X13_check := by
  refine jx_Ct_c (rc := 0) (by decide) rfl (fun D as g M Po hS => ?_)
  unfold js_X13_check at hS
  split at hS
  · rename_i n1 y
    obtain ⟨⟨hB, h2, h3⟩, hK⟩ := hS
    unfold f_check at hK
    simp only [mK_ite, mno] at hK
    simp only [mY_0] at hK
    refine ⟨Nat.le_of_ble_eq_true rfl, ?_⟩
    by_cases h0 : M y 27 = 0
    · refine jx_runL (o := jo_X13) (cs := cs_X13_check) (hf := jx_nh) jo_X13_ok hc_X13_check (jx_HK_nil rfl) (fun p => p == 14) 60 ?_
      simp only [jw, ju, jx_tg, Int.cast_ofNat_Int, Int.reduceAdd, Int.reduceToNat, Nat.reduceAdd, Nat.reduceMul, Nat.reduceBEq, Nat.reduceLeDiff, Int.reduceLE, Int.reduceLT, Int.reduceEq, Int.reduceNeg, Int.reduceSub, Int.reduceMul, not_false_eq_true, true_and, and_true, and_self, Bool.or_false, Bool.false_or, Bool.or_true, Bool.true_or, List.length_nil, List.length_cons, Nat.zero_le, or_true, true_or, Nat.le_refl, ↓reduceIte, Nat.reduceEqDiff, forall_const, false_and, and_false, false_implies, implies_true, not_true_eq_false, or_false, false_or, ne_eq, jd_X13_check, jf_X13, js_X13_filledAs, js_X13_gather, js_X13_isAhead, js_X13_no, js_X13_unwrong, cs_X13_check, jx_ck_c]
      exact ⟨by omega, fun c => absurd h0 c, fun c => mK_no (hK.1 h0)⟩
    have h9 := hB.1
    rw [mY_0] at h9
    have hf := h3 h0
    have hE := hK.2 h0
    have z0 : mZ (mY M y) (mY (mu_unwrong M y) y) := by
      rw [mY_unwrong]
      unfold mu_unwrong
      exact mZ_j (mZ_j (mZ_j (mZ_j (mZ_j (mZ_j mZ_rf (by omega)) (by omega)) (by omega)) (by omega)) (by omega)) (by omega)
    have B0 := mB_Z z0 hB
    have o0 : ∀ z i : Int, z ≠ y + 31 → mu_unwrong M y z i = M z i := fun z i q => by
      unfold mu_unwrong
      rw [jx_u_a _ _ _ _ _ _ q, jx_u_a _ _ _ _ _ _ q, jx_u_a _ _ _ _ _ _ q, jx_u_a _ _ _ _ _ _ q, jx_u_a _ _ _ _ _ _ q, jx_u_a _ _ _ _ _ _ q]
    have o1 : ∀ i : Int, 0 ≤ i → i < 6 → mu_unwrong M y (y + 31) i = -1 := fun i i0 i1 => by
      unfold mu_unwrong jx_u
      rcases (show i = 0 ∨ i = 1 ∨ i = 2 ∨ i = 3 ∨ i = 4 ∨ i = 5 by omega) with rfl | rfl | rfl | rfl | rfl | rfl <;> simp
    refine jx_runL (o := jo_X13) (cs := cs_X13_check) (hf := jx_nh) jo_X13_ok hc_X13_check (jx_HK_nil rfl) (fun p => p == 14) 60 ?_
    simp only [jw, ju, jx_tg, Int.cast_ofNat_Int, Int.reduceAdd, Int.reduceToNat, Nat.reduceAdd, Nat.reduceMul, Nat.reduceBEq, Nat.reduceLeDiff, Int.reduceLE, Int.reduceLT, Int.reduceEq, Int.reduceNeg, Int.reduceSub, Int.reduceMul, not_false_eq_true, true_and, and_true, and_self, Bool.or_false, Bool.false_or, Bool.or_true, Bool.true_or, List.length_nil, List.length_cons, Nat.zero_le, or_true, true_or, Nat.le_refl, ↓reduceIte, Nat.reduceEqDiff, forall_const, false_and, and_false, false_implies, implies_true, not_true_eq_false, or_false, false_or, ne_eq, jd_X13_check, jf_X13, js_X13_filledAs, js_X13_gather, js_X13_isAhead, js_X13_no, js_X13_unwrong, cs_X13_check, jx_ck_c]
    refine ⟨by omega, fun c => ?_, fun c => absurd c (by omega)⟩
    refine jx_runL (o := jo_X13) (cs := cs_X13_check) (hf := jx_nh) jo_X13_ok hc_X13_check (jx_HK_nil rfl) (fun p => p == 22) 60 ?_
    simp only [jw, ju, jx_tg, Int.cast_ofNat_Int, Int.reduceAdd, Int.reduceToNat, Nat.reduceAdd, Nat.reduceMul, Nat.reduceBEq, Nat.reduceLeDiff, Int.reduceLE, Int.reduceLT, Int.reduceEq, Int.reduceNeg, Int.reduceSub, Int.reduceMul, not_false_eq_true, true_and, and_true, and_self, Bool.or_false, Bool.false_or, Bool.or_true, Bool.true_or, List.length_nil, List.length_cons, Nat.zero_le, or_true, true_or, Nat.le_refl, ↓reduceIte, Nat.reduceEqDiff, forall_const, false_and, and_false, false_implies, implies_true, not_true_eq_false, or_false, false_or, ne_eq, jd_X13_check, jf_X13, js_X13_filledAs, js_X13_gather, js_X13_isAhead, js_X13_no, js_X13_unwrong, cs_X13_check, jx_ck_c]
    refine ⟨mB_W B0, fun M1 k1 => ?_⟩
    have q1 := mEg_Q k1
    have z1 : mZ (mY M y) (mY M1 y) := mZ_tr z0 (mQ_Z q1)
    have B1 := mB_Z z1 hB
    have ek := mEg_eok B0 k1
    rw [o0 y 9 (by omega)] at ek
    have hall : me_all (mY (mu_unwrong M y) y) = me_all (mY M y) := me_all_Z z0
    have hEO : mm_EO (me_all (mY M y)) (M1 (y + 15)) (M1 (y + 16)) (M1 (y + 17)) (M1 (y + 18)) (M1 y 20) := by rw [← hall]; exact k1.2.1
    have g1 : ∀ z i : Int, z ≠ y + 15 → z ≠ y + 16 → z ≠ y + 17 → z ≠ y + 18 → z ≠ y + 31 → ¬ (z = y ∧ i = 20) → M1 z i = M z i := fun z i a0 a1 a2 a3 a4 a5 => by
      rw [k1.2.2 z i a0 a1 a2 a3 a5]
      exact o0 z i a4
    have g31 : ∀ i : Int, 0 ≤ i → i < 6 → M1 (y + 31) i = -1 := fun i i0 i1 => by
      rw [k1.2.2 _ i (by omega) (by omega) (by omega) (by omega) (by omega)]
      exact o1 i i0 i1
    obtain ⟨bad, hbad⟩ : ∃ q : Int → Prop, q = fun e => M (y + 27) (M1 (y + 16) e) + M y 27 * M1 (y + 18) e < M (y + 27) (M1 (y + 15) e) + M1 (y + 17) e := ⟨_, rfl⟩
    have bad_iff : ∀ a b t d, me_bad (mY M y) a b t d ↔ ∃ e, 0 ≤ e ∧ e < M1 y 20 ∧ bad e ∧ M1 (y + 15) e = a ∧ M1 (y + 16) e = b ∧ M1 (y + 17) e = t ∧ M1 (y + 18) e = d := fun a b t d => by
      unfold me_bad
      rw [mY_0, hbad]
      constructor
      · rintro ⟨q1, q2⟩
        obtain ⟨e, x0, x1, rfl, rfl, rfl, rfl⟩ := hEO.2 a b t d q1
        exact ⟨e, x0, x1, q2, rfl, rfl, rfl, rfl⟩
      · rintro ⟨e, x0, x1, x2, rfl, rfl, rfl, rfl⟩
        exact ⟨hEO.1 e x0 x1, x2⟩
    -- the end, where no edge is bad
    have nobad : (∀ e, 0 ≤ e → e < M1 y 20 → ¬ bad e) → ∀ P2 : jx_A, jx_V D l (yX13_check.cls, cX13_check, 3, 0, [], 3, 0, 0, yX13_check.name) Po 151 [(73, n1, y), (0, 0, M1 y 20), P2] [] (0, 0) g (M1) := by
      intro hn P2
      have hE2 := hE.2 (fun ⟨a, b, t, d, q⟩ => by obtain ⟨e, x0, x1, x2, -⟩ := (bad_iff a b t d).mp q; exact hn e x0 x1 x2)
      have q1' : mQ (mu_unwrong (mY M y) 0) (mY M1 y) := by rw [← mY_unwrong]; exact q1
      have fr1 : mFr y M M1 := mFr_tr mFr_unwrong (mEg_Fr k1)
      have e9 : M1 y 9 = M y 9 := g1 y 9 (by omega) (by omega) (by omega) (by omega) (by omega) (by omega)
      have e27 : M1 y 27 = M y 27 := g1 y 27 (by omega) (by omega) (by omega) (by omega) (by omega) (by omega)
      have e31 := g31 1 (by omega) (by omega)
      have hspec := mm_fst_spec (mm_over (mY M y)) (-1) 360 0
      have hfl : ∀ k t, mm_fill (mY M1 y) (mY M1 y 27) k t = mm_fill (mY M y) (mY M y 27) k t := fun k t => by
        rw [show mY M1 y 27 = mY M y 27 from funext fun i => g1 (y + 27) i (by omega) (by omega) (by omega) (by omega) (by omega) (by omega)]
        exact mm_fill_Q (z1.1 3 (by decide) (by decide)) (z1.1 4 (by decide) (by decide)) z1.2.1 (by rw [mY_0, mY_0]; exact e27) _ _ _
      have outer : ∀ (f k : Nat) (P2 : jx_A), k + f = 6 → (∀ c : Int, 0 ≤ c → c < 60 * k → ¬ mm_over (mY M y) c) → jx_V D l (yX13_check.cls, cX13_check, 3, 0, [], 3, 0, 0, yX13_check.name) Po 164 [(73, n1, y), (0, 0, (k : Int)), P2] [] (0, 0) g (M1) := by
        intro f
        induction f with
        | zero =>
          intro k P2 hk hno
          have hm : mm_fst (mm_over (mY M y)) (-1) 360 0 = -1 := by
            rcases hspec with q | q
            · exact q.2
            · exact absurd q.2.2.1 (hno _ q.1 (by omega))
          refine jx_runL (o := jo_X13) (cs := cs_X13_check) (hf := jx_nh) jo_X13_ok hc_X13_check (jx_HK_nil rfl) (fun p => p == 164) 60 ?_
          simp only [jw, ju, jx_tg, Int.cast_ofNat_Int, Int.reduceAdd, Int.reduceToNat, Nat.reduceAdd, Nat.reduceMul, Nat.reduceBEq, Nat.reduceLeDiff, Int.reduceLE, Int.reduceLT, Int.reduceEq, Int.reduceNeg, Int.reduceSub, Int.reduceMul, not_false_eq_true, true_and, and_true, and_self, Bool.or_false, Bool.false_or, Bool.or_true, Bool.true_or, List.length_nil, List.length_cons, Nat.zero_le, or_true, true_or, Nat.le_refl, ↓reduceIte, Nat.reduceEqDiff, forall_const, false_and, and_false, false_implies, implies_true, not_true_eq_false, or_false, false_or, ne_eq, jd_X13_check, jf_X13, js_X13_filledAs, js_X13_gather, js_X13_isAhead, js_X13_no, js_X13_unwrong, cs_X13_check, jx_ck_c]
          exact ⟨by omega, fun c => hE2.1 hm M1 q1' fr1, fun c => by omega⟩
        | succ f ih =>
          intro k P2 hk hno
          have e10 : M1 (y + 10) k = M (y + 10) k := g1 _ _ (by omega) (by omega) (by omega) (by omega) (by omega) (by omega)
          have hu := hB.2.2.2.2.2 k (by omega) (by omega)
          simp only [mY_j] at hu
          have inner : ∀ (f t : Nat), (t : Int) + f = M y 27 → (∀ c : Int, 0 ≤ c → c < 60 * k + t → ¬ mm_over (mY M y) c) → jx_V D l (yX13_check.cls, cX13_check, 3, 0, [], 3, 0, 0, yX13_check.name) Po 172 [(73, n1, y), (0, 0, (k : Int)), (0, 0, (t : Int))] [] (0, 0) g (M1) := by
            intro f
            induction f with
            | zero =>
              intro t ht hno2
              refine jx_runL (o := jo_X13) (cs := cs_X13_check) (hf := jx_nh) jo_X13_ok hc_X13_check (jx_HK_nil rfl) (fun p => p == 164 || p == 172) 60 ?_
              simp only [jw, ju, jx_tg, Int.cast_ofNat_Int, Int.reduceAdd, Int.reduceToNat, Nat.reduceAdd, Nat.reduceMul, Nat.reduceBEq, Nat.reduceLeDiff, Int.reduceLE, Int.reduceLT, Int.reduceEq, Int.reduceNeg, Int.reduceSub, Int.reduceMul, not_false_eq_true, true_and, and_true, and_self, Bool.or_false, Bool.false_or, Bool.or_true, Bool.true_or, List.length_nil, List.length_cons, Nat.zero_le, or_true, true_or, Nat.le_refl, ↓reduceIte, Nat.reduceEqDiff, forall_const, false_and, and_false, false_implies, implies_true, not_true_eq_false, or_false, false_or, ne_eq, jd_X13_check, jf_X13, e27, js_X13_filledAs, js_X13_gather, js_X13_isAhead, js_X13_no, js_X13_unwrong, cs_X13_check, jx_ck_c]
              refine ⟨by omega, fun c => ih (k + 1) _ (by omega) (fun c' c0 c1 => ?_), fun c => by omega⟩
              by_cases hc : c' < 60 * k + t
              · exact hno2 c' c0 hc
              · intro q
                have := q.1
                rw [mY_0] at this
                omega
            | succ f ih2 =>
              intro t ht hno2
              have hr := mm_fill_r (S := mY M y) (A := mY M y 27) (k := k) (t := t) hB.1
              have hov : mm_over (mY M y) (60 * k + t) ↔ M (y + 10) k < mm_fill (mY M y) (mY M y 27) k t := by
                unfold mm_over
                rw [mY_0, show (60 * (k : Int) + t) / 60 = k by omega, show (60 * (k : Int) + t) % 60 = t by omega, mY_j]
                exact ⟨fun q => q.2, fun q => ⟨by omega, q⟩⟩
              refine jx_runL (o := jo_X13) (cs := cs_X13_check) (hf := jx_nh) jo_X13_ok hc_X13_check (jx_HK_nil rfl) (fun p => p == 172) 60 ?_
              simp only [jw, ju, jx_tg, Int.cast_ofNat_Int, Int.reduceAdd, Int.reduceToNat, Nat.reduceAdd, Nat.reduceMul, Nat.reduceBEq, Nat.reduceLeDiff, Int.reduceLE, Int.reduceLT, Int.reduceEq, Int.reduceNeg, Int.reduceSub, Int.reduceMul, not_false_eq_true, true_and, and_true, and_self, Bool.or_false, Bool.false_or, Bool.or_true, Bool.true_or, List.length_nil, List.length_cons, Nat.zero_le, or_true, true_or, Nat.le_refl, ↓reduceIte, Nat.reduceEqDiff, forall_const, false_and, and_false, false_implies, implies_true, not_true_eq_false, or_false, false_or, ne_eq, jd_X13_check, jf_X13, e27, e10, js_X13_filledAs, js_X13_gather, js_X13_isAhead, js_X13_no, js_X13_unwrong, cs_X13_check, jx_ck_c]
              rw [hfl]
              refine ⟨by omega, fun c => by omega, fun c => ⟨⟨by omega, by omega, by omega, by omega, mB_up B1, fun a a0 a1 => ?_⟩, by omega, by omega, fun c2 => ?_, fun c2 => ih2 (t + 1) (by omega) (fun c' c0 c1 => ?_)⟩⟩
              · rw [g1 _ _ (by omega) (by omega) (by omega) (by omega) (by omega) (by omega)]
                exact hf a a0 (by omega)
              · have hm : mm_fst (mm_over (mY M y)) (-1) 360 0 = 60 * k + t := by
                  have ho := hov.mpr c2
                  rcases hspec with q | q
                  · exact absurd ho (q.1 _ (by omega) (by omega))
                  · apply Int.le_antisymm
                    · apply Classical.byContradiction
                      intro z
                      exact q.2.2.2 (60 * k + t) (by omega) (by omega) ho
                    · apply Classical.byContradiction
                      intro z
                      exact hno2 _ q.1 (by omega) q.2.2.1
                refine hE2.2 (by omega) _ ?_ (mFr_u (mFr_u fr1 (by omega)) (by omega))
                rw [hm, mY_u, mY_u]
                unfold mu_w2
                rw [show (60 * (k : Int) + t) / 60 = k by omega, show (60 * (k : Int) + t) % 60 = t by omega]
                exact mQ_u (mQ_u q1' _ _ _) _ _ _
              · by_cases hc : c' < 60 * k + t
                · exact hno2 c' c0 hc
                · rw [show c' = 60 * k + t by omega, hov]
                  exact c2
          refine jx_runL (o := jo_X13) (cs := cs_X13_check) (hf := jx_nh) jo_X13_ok hc_X13_check (jx_HK_nil rfl) (fun p => p == 172) 60 ?_
          simp only [jw, ju, jx_tg, Int.cast_ofNat_Int, Int.reduceAdd, Int.reduceToNat, Nat.reduceAdd, Nat.reduceMul, Nat.reduceBEq, Nat.reduceLeDiff, Int.reduceLE, Int.reduceLT, Int.reduceEq, Int.reduceNeg, Int.reduceSub, Int.reduceMul, not_false_eq_true, true_and, and_true, and_self, Bool.or_false, Bool.false_or, Bool.or_true, Bool.true_or, List.length_nil, List.length_cons, Nat.zero_le, or_true, true_or, Nat.le_refl, ↓reduceIte, Nat.reduceEqDiff, forall_const, false_and, and_false, false_implies, implies_true, not_true_eq_false, or_false, false_or, ne_eq, jd_X13_check, jf_X13, js_X13_filledAs, js_X13_gather, js_X13_isAhead, js_X13_no, js_X13_unwrong, cs_X13_check, jx_ck_c]
          exact ⟨by omega, fun c => by omega, fun c => inner (M y 27).toNat 0 (by omega) (fun c' c0 c1 => hno c' c0 (by omega))⟩
      refine jx_runL (o := jo_X13) (cs := cs_X13_check) (hf := jx_nh) jo_X13_ok hc_X13_check (jx_HK_nil rfl) (fun p => p == 164) 60 ?_
      simp only [jw, ju, jx_tg, Int.cast_ofNat_Int, Int.reduceAdd, Int.reduceToNat, Nat.reduceAdd, Nat.reduceMul, Nat.reduceBEq, Nat.reduceLeDiff, Int.reduceLE, Int.reduceLT, Int.reduceEq, Int.reduceNeg, Int.reduceSub, Int.reduceMul, not_false_eq_true, true_and, and_true, and_self, Bool.or_false, Bool.false_or, Bool.or_true, Bool.true_or, List.length_nil, List.length_cons, Nat.zero_le, or_true, true_or, Nat.le_refl, ↓reduceIte, Nat.reduceEqDiff, forall_const, false_and, and_false, false_implies, implies_true, not_true_eq_false, or_false, false_or, ne_eq, jd_X13_check, jf_X13, e31, js_X13_filledAs, js_X13_gather, js_X13_isAhead, js_X13_no, js_X13_unwrong, cs_X13_check, jx_ck_c]
      exact outer 6 0 _ rfl (fun c c0 c1 => by omega)
    -- the end, where one is
    have isbad : ∀ (e0 : Int) (M' : jx_M) (P2 : jx_A), 0 ≤ e0 → e0 < M1 y 20 → bad e0 → (∀ e, 0 ≤ e → e < M1 y 20 → bad e → ¬ mm_lx (M1 (y + 15) e) (M1 (y + 16) e) (M1 (y + 17) e) (M1 (y + 18) e) (M1 (y + 15) e0) (M1 (y + 16) e0) (M1 (y + 17) e0) (M1 (y + 18) e0)) →
        (∀ z i : Int, z ≠ y + 31 → M' z i = M1 z i) → M' (y + 31) = mu_w4 (mY (mu_unwrong M y) y) (M1 (y + 15) e0, M1 (y + 16) e0, M1 (y + 17) e0, M1 (y + 18) e0) 31 → jx_V D l (yX13_check.cls, cX13_check, 3, 0, [], 3, 0, 0, yX13_check.name) Po 151 [(73, n1, y), (0, 0, M1 y 20), P2] [] (0, 0) g (M') := by
      intro e0 M' P2 x0 x1 x2 x3 x4 x5
      have hb := (ek.1.2 e0 x0 x1).2.1
      have hl : mm_lb (mY M y) (M1 (y + 15) e0) (M1 (y + 16) e0) (M1 (y + 17) e0) (M1 (y + 18) e0) := ⟨(bad_iff _ _ _ _).mpr ⟨e0, x0, x1, x2, rfl, rfl, rfl, rfl⟩, fun a' b' t' d' q => by
        obtain ⟨e, y0, y1, y2, rfl, rfl, rfl, rfl⟩ := (bad_iff a' b' t' d').mp q
        exact x3 e y0 y1 y2⟩
      have hE1 := hE.1 ⟨_, _, _, _, hl.1⟩
      rw [mm_bq_eq hl] at hE1
      have w1 : M' (y + 31) 1 = M1 (y + 16) e0 := by
        rw [x5]
        unfold mu_w4
        rw [jx_u_j _ _ _ _ _ _ (by decide), jx_u_j _ _ _ _ _ _ (by decide), jx_u_eq]
      refine jx_runL (o := jo_X13) (cs := cs_X13_check) (hf := jx_nh) jo_X13_ok hc_X13_check (jx_HK_nil rfl) (fun p => p == 162) 60 ?_
      simp only [jw, ju, jx_tg, Int.cast_ofNat_Int, Int.reduceAdd, Int.reduceToNat, Nat.reduceAdd, Nat.reduceMul, Nat.reduceBEq, Nat.reduceLeDiff, Int.reduceLE, Int.reduceLT, Int.reduceEq, Int.reduceNeg, Int.reduceSub, Int.reduceMul, not_false_eq_true, true_and, and_true, and_self, Bool.or_false, Bool.false_or, Bool.or_true, Bool.true_or, List.length_nil, List.length_cons, Nat.zero_le, or_true, true_or, Nat.le_refl, ↓reduceIte, Nat.reduceEqDiff, forall_const, false_and, and_false, false_implies, implies_true, not_true_eq_false, or_false, false_or, ne_eq, jd_X13_check, jf_X13, w1, js_X13_filledAs, js_X13_gather, js_X13_isAhead, js_X13_no, js_X13_unwrong, cs_X13_check, jx_ck_c]
      refine ⟨by omega, fun c => by omega, fun c => hE1 M' (fun j i a0 a1 a2 a3 a4 a5 => ?_) (fun z i q => ?_)⟩
      · rw [mY_unwrong] at x5
        by_cases hj : j = 31
        · subst hj
          exact congrFun x5 i
        · unfold mu_w4
          rw [jx_u_a _ _ _ _ _ _ hj, jx_u_a _ _ _ _ _ _ hj, jx_u_a _ _ _ _ _ _ hj, jx_u_a _ _ _ _ _ _ hj]
          show M' (y + j) i = _
          rw [x4 _ _ (by omega)]
          have := q1 j i a0 a1 a2 a3 a4 a5
          rw [mY_unwrong] at this
          exact this
      · rw [x4 z i (by omega)]
        exact (mFr_tr mFr_unwrong (mEg_Fr k1)) z i q
    have loop : ∀ (f e : Nat) (M' : jx_M) (P2 : jx_A), (e : Int) + f = M1 y 20 → ((∀ e', 0 ≤ e' → e' < (e : Int) → ¬ bad e') ∧ M' = M1) ∨ (∃ e0, 0 ≤ e0 ∧ e0 < (e : Int) ∧ bad e0 ∧ (∀ e', 0 ≤ e' → e' < (e : Int) → bad e' → ¬ mm_lx (M1 (y + 15) e') (M1 (y + 16) e') (M1 (y + 17) e') (M1 (y + 18) e') (M1 (y + 15) e0) (M1 (y + 16) e0) (M1 (y + 17) e0) (M1 (y + 18) e0)) ∧
        (∀ z i : Int, z ≠ y + 31 → M' z i = M1 z i) ∧ M' (y + 31) = mu_w4 (mY (mu_unwrong M y) y) (M1 (y + 15) e0, M1 (y + 16) e0, M1 (y + 17) e0, M1 (y + 18) e0) 31) → jx_V D l (yX13_check.cls, cX13_check, 3, 0, [], 3, 0, 0, yX13_check.name) Po 24 [(73, n1, y), (0, 0, (e : Int)), P2] [] (0, 0) g (M') := by
      intro f
      induction f with
      | zero =>
        intro e M' P2 he hI
        have hm := ek.1.1
        have q20 : M' y 20 = M1 y 20 := by
          rcases hI with ⟨_, rfl⟩ | ⟨e0, _, _, _, _, x4, _⟩
          · rfl
          · exact x4 _ _ (by omega)
        refine jx_runL (o := jo_X13) (cs := cs_X13_check) (hf := jx_nh) jo_X13_ok hc_X13_check (jx_HK_nil rfl) (fun p => p == 24 || p == 151) 60 ?_
        simp only [jw, ju, jx_tg, Int.cast_ofNat_Int, Int.reduceAdd, Int.reduceToNat, Nat.reduceAdd, Nat.reduceMul, Nat.reduceBEq, Nat.reduceLeDiff, Int.reduceLE, Int.reduceLT, Int.reduceEq, Int.reduceNeg, Int.reduceSub, Int.reduceMul, not_false_eq_true, true_and, and_true, and_self, Bool.or_false, Bool.false_or, Bool.or_true, Bool.true_or, List.length_nil, List.length_cons, Nat.zero_le, or_true, true_or, Nat.le_refl, ↓reduceIte, Nat.reduceEqDiff, forall_const, false_and, and_false, false_implies, implies_true, not_true_eq_false, or_false, false_or, ne_eq, jd_X13_check, jf_X13, q20, js_X13_filledAs, js_X13_gather, js_X13_isAhead, js_X13_no, js_X13_unwrong, cs_X13_check, jx_ck_c]
        refine ⟨by omega, fun c => ?_, fun c => by omega⟩
        rw [show (e : Int) = M1 y 20 by omega] at hI ⊢
        rcases hI with ⟨x0, rfl⟩ | ⟨e0, x0, x1, x2, x3, x4, x5⟩
        · exact nobad x0 _
        · exact isbad e0 M' _ x0 x1 x2 x3 x4 x5
      | succ f ih =>
        intro e M' P2 he hI
        have hm := ek.1.1
        have xf : ∀ z i : Int, z ≠ y + 31 → M' z i = M1 z i := by
          rcases hI with ⟨_, rfl⟩ | ⟨e0, _, _, _, _, x4, _⟩
          · exact fun _ _ _ => rfl
          · exact x4
        have q20 : M' y 20 = M1 y 20 := xf _ _ (by omega)
        have q27 : M' y 27 = M y 27 := by rw [xf _ _ (by omega)]; exact g1 y 27 (by omega) (by omega) (by omega) (by omega) (by omega) (by omega)
        have q15 : M' (y + 15) e = M1 (y + 15) e := xf _ _ (by omega)
        have q16 : M' (y + 16) e = M1 (y + 16) e := xf _ _ (by omega)
        have q17 : M' (y + 17) e = M1 (y + 17) e := xf _ _ (by omega)
        have q18 : M' (y + 18) e = M1 (y + 18) e := xf _ _ (by omega)
        have qf : ∀ k, M' (y + 27) k = M (y + 27) k := fun k => by rw [xf _ _ (by omega)]; exact g1 _ _ (by omega) (by omega) (by omega) (by omega) (by omega) (by omega)
        obtain ⟨b1, b2, b3, b4⟩ := ek.1.2 e (by omega) (by omega)
        have bd := mm_bd (b := M y 27) (by omega) b4
        have f1 := hf _ b1.1 b1.2
        have f2 := hf _ b2.1 b2.2
        have hbe : bad e ↔ M (y + 27) (M1 (y + 16) e) + M y 27 * M1 (y + 18) e < M (y + 27) (M1 (y + 15) e) + M1 (y + 17) e := by rw [hbad]
        have at145 : ∀ (M2 : jx_M) (P2 : jx_A), jx_V D l (yX13_check.cls, cX13_check, 3, 0, [], 3, 0, 0, yX13_check.name) Po 24 [(73, n1, y), (0, 0, (e : Int) + 1), P2] [] (0, 0) g (M2) → jx_V D l (yX13_check.cls, cX13_check, 3, 0, [], 3, 0, 0, yX13_check.name) Po 145 [(73, n1, y), (0, 0, (e : Int)), P2] [] (0, 0) g (M2) := by
          intro M2 P2 hV
          refine jx_runL (o := jo_X13) (cs := cs_X13_check) (hf := jx_nh) jo_X13_ok hc_X13_check (jx_HK_nil rfl) (fun p => p == 24) 60 ?_
          simp only [jw, ju, jx_tg, Int.cast_ofNat_Int, Int.reduceAdd, Int.reduceToNat, Nat.reduceAdd, Nat.reduceMul, Nat.reduceBEq, Nat.reduceLeDiff, Int.reduceLE, Int.reduceLT, Int.reduceEq, Int.reduceNeg, Int.reduceSub, Int.reduceMul, not_false_eq_true, true_and, and_true, and_self, Bool.or_false, Bool.false_or, Bool.or_true, Bool.true_or, List.length_nil, List.length_cons, Nat.zero_le, or_true, true_or, Nat.le_refl, ↓reduceIte, Nat.reduceEqDiff, forall_const, false_and, and_false, false_implies, implies_true, not_true_eq_false, or_false, false_or, ne_eq, jd_X13_check, jf_X13, js_X13_filledAs, js_X13_gather, js_X13_isAhead, js_X13_no, js_X13_unwrong, cs_X13_check, jx_ck_c]
          exact hV
        have keep : ∀ P2 : jx_A, ¬ bad e → jx_V D l (yX13_check.cls, cX13_check, 3, 0, [], 3, 0, 0, yX13_check.name) Po 145 [(73, n1, y), (0, 0, (e : Int)), P2] [] (0, 0) g (M') := by
          intro P2 hnb
          refine at145 M' P2 (ih (e + 1) M' P2 (by omega) ?_)
          rcases hI with ⟨x0, x1⟩ | ⟨e0, x0, x1, x2, x3, x4, x5⟩
          · refine Or.inl ⟨fun e' y0 y1 => ?_, x1⟩
            by_cases he' : e' = e
            · rw [he']; exact hnb
            · exact x0 e' y0 (by omega)
          · refine Or.inr ⟨e0, x0, by omega, x2, fun e' y0 y1 y2 => ?_, x4, x5⟩
            by_cases he' : e' = e
            · rw [he'] at y2; exact absurd y2 hnb
            · exact x3 e' y0 (by omega) y2
        have at97 : ∀ P2 : jx_A, bad e → (∀ e', 0 ≤ e' → e' < (e : Int) → bad e' → ¬ mm_lx (M1 (y + 15) e') (M1 (y + 16) e') (M1 (y + 17) e') (M1 (y + 18) e') (M1 (y + 15) e) (M1 (y + 16) e) (M1 (y + 17) e) (M1 (y + 18) e)) → jx_V D l (yX13_check.cls, cX13_check, 3, 0, [], 3, 0, 0, yX13_check.name) Po 97 [(73, n1, y), (0, 0, (e : Int)), P2] [] (0, 0) g (M') := by
          intro P2 hb hno
          refine jx_runL (o := jo_X13) (cs := cs_X13_check) (hf := jx_nh) jo_X13_ok hc_X13_check (jx_HK_nil rfl) (fun p => p == 145) 60 ?_
          simp only [jw, ju, jx_tg, Int.cast_ofNat_Int, Int.reduceAdd, Int.reduceToNat, Nat.reduceAdd, Nat.reduceMul, Nat.reduceBEq, Nat.reduceLeDiff, Int.reduceLE, Int.reduceLT, Int.reduceEq, Int.reduceNeg, Int.reduceSub, Int.reduceMul, not_false_eq_true, true_and, and_true, and_self, Bool.or_false, Bool.false_or, Bool.or_true, Bool.true_or, List.length_nil, List.length_cons, Nat.zero_le, or_true, true_or, Nat.le_refl, ↓reduceIte, Nat.reduceEqDiff, forall_const, false_and, and_false, false_implies, implies_true, not_true_eq_false, or_false, false_or, ne_eq, jd_X13_check, jf_X13, q15, q16, q17, q18, js_X13_filledAs, js_X13_gather, js_X13_isAhead, js_X13_no, js_X13_unwrong, cs_X13_check, jx_ck_c]
          refine ⟨by omega, by omega, by omega, by omega, at145 _ P2 (ih (e + 1) _ P2 (by omega) (Or.inr ⟨e, by omega, by omega, hb, fun e' y0 y1 y2 => ?_, fun z i q => ?_, ?_⟩))⟩
          · by_cases he' : e' = e
            · rw [he']
              unfold mm_lx
              omega
            · exact hno e' y0 (by omega) y2
          · rw [jx_u_a _ _ _ _ _ _ q, jx_u_a _ _ _ _ _ _ q, jx_u_a _ _ _ _ _ _ q, jx_u_a _ _ _ _ _ _ q]
            exact xf z i q
          · funext i
            unfold mu_w4
            simp only [jx_u]
            have hbase : ¬ (0 ≤ i ∧ i < 4) → M' (y + 31) i = mY (mu_unwrong M y) y 31 i := fun hi => by
              rcases hI with ⟨_, x1⟩ | ⟨e0, _, _, _, _, _, x5⟩
              · rw [x1, k1.2.2 _ i (by omega) (by omega) (by omega) (by omega) (by omega)]
                rfl
              · rw [x5]
                unfold mu_w4
                rw [jx_u_j _ _ _ _ _ _ (by omega), jx_u_j _ _ _ _ _ _ (by omega), jx_u_j _ _ _ _ _ _ (by omega), jx_u_j _ _ _ _ _ _ (by omega)]
            by_cases hi : 0 ≤ i ∧ i < 4
            · rcases (show i = 0 ∨ i = 1 ∨ i = 2 ∨ i = 3 by omega) with rfl | rfl | rfl | rfl <;> simp
            · rw [if_neg (by omega), if_neg (by omega), if_neg (by omega), if_neg (by omega), if_neg (by omega), if_neg (by omega), if_neg (by omega), if_neg (by omega)]
              exact hbase hi
        have rng : ∀ i : Int, 0 ≤ i → i < 4 → jx_r (M' (y + 31) i) := fun i i0 i1 => by
          rcases hI with ⟨_, x1⟩ | ⟨e0, x0, x1, _, _, _, x5⟩
          · rw [x1, g31 i i0 (by omega)]
            decide
          · obtain ⟨c1, c2, c3, c4⟩ := ek.1.2 e0 x0 (by omega)
            rw [x5]
            unfold mu_w4 jx_u
            rcases (show i = 0 ∨ i = 1 ∨ i = 2 ∨ i = 3 by omega) with rfl | rfl | rfl | rfl <;> simp <;> omega
        by_cases hb : bad e
        · have hb2 := hbe.mp hb
          refine jx_runL (o := jo_X13) (cs := cs_X13_check) (hf := jx_nh) jo_X13_ok hc_X13_check (jx_HK_nil rfl) (fun p => p == 82) 60 ?_
          simp only [jw, ju, jx_tg, Int.cast_ofNat_Int, Int.reduceAdd, Int.reduceToNat, Nat.reduceAdd, Nat.reduceMul, Nat.reduceBEq, Nat.reduceLeDiff, Int.reduceLE, Int.reduceLT, Int.reduceEq, Int.reduceNeg, Int.reduceSub, Int.reduceMul, not_false_eq_true, true_and, and_true, and_self, Bool.or_false, Bool.false_or, Bool.or_true, Bool.true_or, List.length_nil, List.length_cons, Nat.zero_le, or_true, true_or, Nat.le_refl, ↓reduceIte, Nat.reduceEqDiff, forall_const, false_and, and_false, false_implies, implies_true, not_true_eq_false, or_false, false_or, ne_eq, jd_X13_check, jf_X13, q20, q27, q15, q16, q17, q18, qf, js_X13_filledAs, js_X13_gather, js_X13_isAhead, js_X13_no, js_X13_unwrong, cs_X13_check, jx_ck_c]
          refine ⟨by omega, fun c => by omega, fun c => ⟨by omega, by omega, by omega, by omega, by omega, by omega, by omega, fun c2 => ?_, fun c2 => by omega⟩⟩
          refine jx_runL (o := jo_X13) (cs := cs_X13_check) (hf := jx_nh) jo_X13_ok hc_X13_check (jx_HK_nil rfl) (fun p => p == 97 || p == 145) 60 ?_
          simp only [jw, ju, jx_tg, Int.cast_ofNat_Int, Int.reduceAdd, Int.reduceToNat, Nat.reduceAdd, Nat.reduceMul, Nat.reduceBEq, Nat.reduceLeDiff, Int.reduceLE, Int.reduceLT, Int.reduceEq, Int.reduceNeg, Int.reduceSub, Int.reduceMul, not_false_eq_true, true_and, and_true, and_self, Bool.or_false, Bool.false_or, Bool.or_true, Bool.true_or, List.length_nil, List.length_cons, Nat.zero_le, or_true, true_or, Nat.le_refl, ↓reduceIte, Nat.reduceEqDiff, forall_const, false_and, and_false, false_implies, implies_true, not_true_eq_false, or_false, false_or, ne_eq, jd_X13_check, jf_X13, q15, q16, q17, q18, js_X13_filledAs, js_X13_gather, js_X13_isAhead, js_X13_no, js_X13_unwrong, cs_X13_check, jx_ck_c]
          refine ⟨⟨by omega, ⟨rng 0 (by omega) (by omega), rng 1 (by omega) (by omega), rng 2 (by omega) (by omega), rng 3 (by omega) (by omega)⟩, by omega, by omega, by omega, by omega⟩, fun c3 => ?_, fun c3 => ?_⟩
          · refine at97 _ hb (fun e' y0 y1 y2 => ?_)
            rcases hI with ⟨x0, _⟩ | ⟨e0, x0, x1, x2, x3, x4, x5⟩
            · exact absurd y2 (x0 e' y0 y1)
            · have v0 : M' (y + 31) 0 = M1 (y + 15) e0 := by rw [x5]; unfold mu_w4; rw [jx_u_j _ _ _ _ _ _ (by decide), jx_u_j _ _ _ _ _ _ (by decide), jx_u_j _ _ _ _ _ _ (by decide), jx_u_eq]
              have v1 : M' (y + 31) 1 = M1 (y + 16) e0 := by rw [x5]; unfold mu_w4; rw [jx_u_j _ _ _ _ _ _ (by decide), jx_u_j _ _ _ _ _ _ (by decide), jx_u_eq]
              have v2 : M' (y + 31) 2 = M1 (y + 17) e0 := by rw [x5]; unfold mu_w4; rw [jx_u_j _ _ _ _ _ _ (by decide), jx_u_eq]
              have v3 : M' (y + 31) 3 = M1 (y + 18) e0 := by rw [x5]; unfold mu_w4; rw [jx_u_eq]
              rw [v0, v1, v2, v3] at c3
              have := (ek.1.2 e0 x0 (by omega)).2.1
              exact mm_lx_tr (x3 e' y0 y1 y2) (c3.resolve_left (by omega))
          · refine at145 M' _ (ih (e + 1) M' _ (by omega) ?_)
            rcases hI with ⟨x0, x1⟩ | ⟨e0, x0, x1, x2, x3, x4, x5⟩
            · exact absurd (Or.inl (by rw [x1, g31 1 (by omega) (by omega)]; decide)) c3
            · refine Or.inr ⟨e0, x0, by omega, x2, fun e' y0 y1 y2 => ?_, x4, x5⟩
              by_cases he' : e' = e
              · have v0 : M' (y + 31) 0 = M1 (y + 15) e0 := by rw [x5]; unfold mu_w4; rw [jx_u_j _ _ _ _ _ _ (by decide), jx_u_j _ _ _ _ _ _ (by decide), jx_u_j _ _ _ _ _ _ (by decide), jx_u_eq]
                have v1 : M' (y + 31) 1 = M1 (y + 16) e0 := by rw [x5]; unfold mu_w4; rw [jx_u_j _ _ _ _ _ _ (by decide), jx_u_j _ _ _ _ _ _ (by decide), jx_u_eq]
                have v2 : M' (y + 31) 2 = M1 (y + 17) e0 := by rw [x5]; unfold mu_w4; rw [jx_u_j _ _ _ _ _ _ (by decide), jx_u_eq]
                have v3 : M' (y + 31) 3 = M1 (y + 18) e0 := by rw [x5]; unfold mu_w4; rw [jx_u_eq]
                rw [v0, v1, v2, v3] at c3
                rw [he']
                exact fun z => c3 (Or.inr z)
              · exact x3 e' y0 (by omega) y2
        · have hb2 : ¬ _ := fun z => hb (hbe.mpr z)
          refine jx_runL (o := jo_X13) (cs := cs_X13_check) (hf := jx_nh) jo_X13_ok hc_X13_check (jx_HK_nil rfl) (fun p => p == 82) 60 ?_
          simp only [jw, ju, jx_tg, Int.cast_ofNat_Int, Int.reduceAdd, Int.reduceToNat, Nat.reduceAdd, Nat.reduceMul, Nat.reduceBEq, Nat.reduceLeDiff, Int.reduceLE, Int.reduceLT, Int.reduceEq, Int.reduceNeg, Int.reduceSub, Int.reduceMul, not_false_eq_true, true_and, and_true, and_self, Bool.or_false, Bool.false_or, Bool.or_true, Bool.true_or, List.length_nil, List.length_cons, Nat.zero_le, or_true, true_or, Nat.le_refl, ↓reduceIte, Nat.reduceEqDiff, forall_const, false_and, and_false, false_implies, implies_true, not_true_eq_false, or_false, false_or, ne_eq, jd_X13_check, jf_X13, q20, q27, q15, q16, q17, q18, qf, js_X13_filledAs, js_X13_gather, js_X13_isAhead, js_X13_no, js_X13_unwrong, cs_X13_check, jx_ck_c]
          refine ⟨by omega, fun c => by omega, fun c => ⟨by omega, by omega, by omega, by omega, by omega, by omega, by omega, fun c2 => absurd c2 hb2, fun c2 => ?_⟩⟩
          refine jx_runL (o := jo_X13) (cs := cs_X13_check) (hf := jx_nh) jo_X13_ok hc_X13_check (jx_HK_nil rfl) (fun p => p == 145) 60 ?_
          simp only [jw, ju, jx_tg, Int.cast_ofNat_Int, Int.reduceAdd, Int.reduceToNat, Nat.reduceAdd, Nat.reduceMul, Nat.reduceBEq, Nat.reduceLeDiff, Int.reduceLE, Int.reduceLT, Int.reduceEq, Int.reduceNeg, Int.reduceSub, Int.reduceMul, not_false_eq_true, true_and, and_true, and_self, Bool.or_false, Bool.false_or, Bool.or_true, Bool.true_or, List.length_nil, List.length_cons, Nat.zero_le, or_true, true_or, Nat.le_refl, ↓reduceIte, Nat.reduceEqDiff, forall_const, false_and, and_false, false_implies, implies_true, not_true_eq_false, or_false, false_or, ne_eq, jd_X13_check, jf_X13, js_X13_filledAs, js_X13_gather, js_X13_isAhead, js_X13_no, js_X13_unwrong, cs_X13_check, jx_ck_c]
          exact keep _ hb
    refine jx_runL (o := jo_X13) (cs := cs_X13_check) (hf := jx_nh) jo_X13_ok hc_X13_check (jx_HK_nil rfl) (fun p => p == 24) 60 ?_
    simp only [jw, ju, jx_tg, Int.cast_ofNat_Int, Int.reduceAdd, Int.reduceToNat, Nat.reduceAdd, Nat.reduceMul, Nat.reduceBEq, Nat.reduceLeDiff, Int.reduceLE, Int.reduceLT, Int.reduceEq, Int.reduceNeg, Int.reduceSub, Int.reduceMul, not_false_eq_true, true_and, and_true, and_self, Bool.or_false, Bool.false_or, Bool.or_true, Bool.true_or, List.length_nil, List.length_cons, Nat.zero_le, or_true, true_or, Nat.le_refl, ↓reduceIte, Nat.reduceEqDiff, forall_const, false_and, and_false, false_implies, implies_true, not_true_eq_false, or_false, false_or, ne_eq, jd_X13_check, jf_X13, js_X13_filledAs, js_X13_gather, js_X13_isAhead, js_X13_no, js_X13_unwrong, cs_X13_check, jx_ck_c]
    exact loop (M1 y 20).toNat 0 M1 _ (by have := ek.1.1; omega) (Or.inl ⟨fun e' y0 y1 => by omega, rfl⟩)
  · exact hS.elim
