/-! the reference, 9: copy, undo, ready, value, does -/
set_option maxRecDepth 100000
theorem jx_ladd_eq {x y : Int} (hx : jx_r x) (hy : jx_r y) : jx_ladd x y = x + y := by
  unfold jx_ladd
  rw [← Int64.ofInt_add, jx_ti64 ⟨by have := hx.1; have := hy.1; omega, by have := hx.2; have := hy.2; omega⟩]
theorem jx_cmp_le {x y : Int} : (jx_cmp x y ≤ 0) = (x ≤ y) := by
  unfold jx_cmp
  apply propext
  split
  · omega
  · split <;> omega
theorem jx_cmp_ge {x y : Int} : (0 ≤ jx_cmp x y) = (y ≤ x) := by
  unfold jx_cmp
  apply propext
  split
  · omega
  · split <;> omega
def js_X13_copy : jx_Sp := fun as g M Po => match as with
  | [(73, _, y), (0, _, s), (0, _, i), (0, _, t), (0, _, j), (0, _, n)] => ((jx_r s ∧ jx_r i ∧ jx_r t ∧ jx_r j ∧ jx_r n) ∧ mm_rows (mY M y)) ∧ mK y g M Po 0 (f_copy s i t j n (mY M y)).1 (f_copy s i t j n (mY M y)).2
  | _ => False
def cs_X13_copy : jx_Cs := [(748, 1, 0, 0, js_X13_isSlot), (372, 2, 0, 0, js_X13_no)]
theorem hc_X13_copy {D : jx_D} {l : Launch} : jx_CsOK D l "LoopLaneModel" 3 cs_X13_copy := List.forall_mem_cons.mpr ⟨jc_X13_249 (jt_X13_isSlot l) (fun as g M Po (h : js_X13_isSlot as g M Po) => by unfold js_X13_isSlot at h; split at h <;> first | exact h.elim | exact rfl) (by decide), List.forall_mem_cons.mpr ⟨jc_X13_124 (jt_X13_no l) (fun as g M Po (h : js_X13_no as g M Po) => by unfold js_X13_no at h; split at h <;> first | exact h.elim | exact ⟨_, _, _, rfl, rfl⟩) (by decide), fun _ h => absurd h List.not_mem_nil⟩⟩
set_option maxHeartbeats 4000000 in
theorem jt_X13_copy (l : Launch) : jx_Ct l yX13_copy (ws_ yX13_copy cX13_copy 7 (some .int)) 3 0 0 js_X13_copy := by
  refine jx_Ct_c (rc := 0) (by decide) rfl (fun D as g M Po hS => ?_)
  unfold js_X13_copy at hS
  split at hS
  · rename_i n1 y n2 s n3 i n4 t n5 j n6 n
    obtain ⟨⟨⟨r1, r2, r3, r4, r5⟩, h1⟩, hK⟩ := hS
    unfold f_copy at hK
    simp only [mK_ite, mno] at hK
    try simp only [mY_0] at hK
    try simp only [mY_j] at hK
    refine ⟨Nat.le_of_ble_eq_true rfl, ?_⟩
    have loop2 : ∀ (f k : Nat) (M' : jx_M), k + f = n.toNat → (0 ≤ s ∧ s < 8) → (0 ≤ t ∧ t < 8) → (0 ≤ i ∧ i + n ≤ 40) → (0 ≤ j ∧ j + n ≤ 40) → (∀ M', mQ (mm_copy (mY M y) (mY M y) (40 * s + i) (40 * t + j) n.toNat) (mY M' y) → mFr y M M' → Po (0, 0, n) g M') →
        mQ (mm_copy (mY M y) (mY M y) (40 * s + i) (40 * t + j) k) (mY M' y) → (∀ q : Int, 0 ≤ q → q < 320 → M' (y + 20) q = M (y + 19) q) → mFr y M M' → jx_V D l (yX13_copy.cls, cX13_copy, 7, 0, [], 3, 0, 0, yX13_copy.name) Po 168 [(73, n1, y), (0, n2, s), (0, n3, i), (0, n4, t), (0, n5, j), (0, n6, n), (0, 0, (k : Int))] [] (0, 0) g M' := by
      intro f
      induction f with
      | zero =>
        intro k M' hk b1 b2 b3 b4 hE e1 e2 e3
        refine jx_runL (o := jo_X13) (cs := cs_X13_copy) (hf := jx_nh) jo_X13_ok hc_X13_copy (jx_HK_nil rfl) (fun p => p == 168) 60 ?_
        simp only [jw, ju, jx_tg, Int.cast_ofNat_Int, Int.reduceAdd, Int.reduceToNat, Nat.reduceAdd, Nat.reduceMul, Nat.reduceBEq, Nat.reduceLeDiff, Int.reduceLE, Int.reduceLT, Int.reduceEq, Int.reduceNeg, Int.reduceSub, Int.reduceMul, not_false_eq_true, true_and, and_true, and_self, Bool.or_false, Bool.false_or, Bool.or_true, Bool.true_or, List.length_nil, List.length_cons, Nat.zero_le, or_true, true_or, Nat.le_refl, ↓reduceIte, Nat.reduceEqDiff, forall_const, false_and, and_false, false_implies, implies_true, not_true_eq_false, or_false, false_or, ne_eq, jd_X13_copy, jf_X13, js_X13_isSlot, js_X13_no, cs_X13_copy, jx_ck_c]
        refine ⟨by omega, fun c => hE _ ?_ e3, fun c => by omega⟩
        rw [show n.toNat = k by omega]
        exact e1
      | succ f ih =>
        intro k M' hk b1 b2 b3 b4 hE e1 e2 e3
        refine jx_runL (o := jo_X13) (cs := cs_X13_copy) (hf := jx_nh) jo_X13_ok hc_X13_copy (jx_HK_nil rfl) (fun p => p == 168) 60 ?_
        simp only [jw, ju, jx_tg, Int.cast_ofNat_Int, Int.reduceAdd, Int.reduceToNat, Nat.reduceAdd, Nat.reduceMul, Nat.reduceBEq, Nat.reduceLeDiff, Int.reduceLE, Int.reduceLT, Int.reduceEq, Int.reduceNeg, Int.reduceSub, Int.reduceMul, not_false_eq_true, true_and, and_true, and_self, Bool.or_false, Bool.false_or, Bool.or_true, Bool.true_or, List.length_nil, List.length_cons, Nat.zero_le, or_true, true_or, Nat.le_refl, ↓reduceIte, Nat.reduceEqDiff, forall_const, false_and, and_false, false_implies, implies_true, not_true_eq_false, or_false, false_or, ne_eq, jd_X13_copy, jf_X13, js_X13_isSlot, js_X13_no, cs_X13_copy, jx_ck_c]
        refine ⟨by omega, fun c => by omega, fun c => ⟨by omega, by omega, ?_⟩⟩
        refine ih (k + 1) _ (by omega) b1 b2 b3 b4 hE ?_ (fun q q0 q1 => by rw [jx_u_a _ _ _ _ _ _ (show y + 20 ≠ y + 19 by omega)]; exact e2 q q0 q1) (mFr_u (a := 19) e3 (by omega))
        rw [mY_u, e2 _ (by omega) (by omega)]
        exact mQ_u e1 19 _ _
    have loop1 : ∀ (f k : Nat) (M' : jx_M), k + f = 320 → mQ (mY M y) (mY M' y) → (∀ q : Int, M' (y + 19) q = M (y + 19) q) → (∀ q : Int, 0 ≤ q → q < k → M' (y + 20) q = M (y + 19) q) → mFr y M M' →
        (∀ M', mQ (mY M y) (mY M' y) → (∀ q : Int, 0 ≤ q → q < 320 → M' (y + 20) q = M (y + 19) q) → mFr y M M' → jx_V D l (yX13_copy.cls, cX13_copy, 7, 0, [], 3, 0, 0, yX13_copy.name) Po 168 [(73, n1, y), (0, n2, s), (0, n3, i), (0, n4, t), (0, n5, j), (0, n6, n), (0, 0, 0)] [] (0, 0) g M') → jx_V D l (yX13_copy.cls, cX13_copy, 7, 0, [], 3, 0, 0, yX13_copy.name) Po 137 [(73, n1, y), (0, n2, s), (0, n3, i), (0, n4, t), (0, n5, j), (0, n6, n), (0, 0, (k : Int))] [] (0, 0) g M' := by
      intro f
      induction f with
      | zero =>
        intro k M' hk e1 e0 e2 e3 hE
        refine jx_runL (o := jo_X13) (cs := cs_X13_copy) (hf := jx_nh) jo_X13_ok hc_X13_copy (jx_HK_nil rfl) (fun p => p == 137 || p == 168) 60 ?_
        simp only [jw, ju, jx_tg, Int.cast_ofNat_Int, Int.reduceAdd, Int.reduceToNat, Nat.reduceAdd, Nat.reduceMul, Nat.reduceBEq, Nat.reduceLeDiff, Int.reduceLE, Int.reduceLT, Int.reduceEq, Int.reduceNeg, Int.reduceSub, Int.reduceMul, not_false_eq_true, true_and, and_true, and_self, Bool.or_false, Bool.false_or, Bool.or_true, Bool.true_or, List.length_nil, List.length_cons, Nat.zero_le, or_true, true_or, Nat.le_refl, ↓reduceIte, Nat.reduceEqDiff, forall_const, false_and, and_false, false_implies, implies_true, not_true_eq_false, or_false, false_or, ne_eq, jd_X13_copy, jf_X13, js_X13_isSlot, js_X13_no, cs_X13_copy, jx_ck_c]
        exact ⟨by omega, fun c => hE _ e1 (fun q a b => e2 q a (by omega)) e3, fun c => by omega⟩
      | succ f ih =>
        intro k M' hk e1 e0 e2 e3 hE
        refine jx_runL (o := jo_X13) (cs := cs_X13_copy) (hf := jx_nh) jo_X13_ok hc_X13_copy (jx_HK_nil rfl) (fun p => p == 137 || p == 168) 60 ?_
        simp only [jw, ju, jx_tg, Int.cast_ofNat_Int, Int.reduceAdd, Int.reduceToNat, Nat.reduceAdd, Nat.reduceMul, Nat.reduceBEq, Nat.reduceLeDiff, Int.reduceLE, Int.reduceLT, Int.reduceEq, Int.reduceNeg, Int.reduceSub, Int.reduceMul, not_false_eq_true, true_and, and_true, and_self, Bool.or_false, Bool.false_or, Bool.or_true, Bool.true_or, List.length_nil, List.length_cons, Nat.zero_le, or_true, true_or, Nat.le_refl, ↓reduceIte, Nat.reduceEqDiff, forall_const, false_and, and_false, false_implies, implies_true, not_true_eq_false, or_false, false_or, ne_eq, jd_X13_copy, jf_X13, js_X13_isSlot, js_X13_no, cs_X13_copy, jx_ck_c]
        refine ⟨by omega, fun c => by omega, fun c => ⟨by omega, by omega, ?_⟩⟩
        refine ih (k + 1) _ (by omega) (fun a b x1 x2 x3 x4 x5 x6 => ?_) ?_ (fun q a b => ?_) (mFr_u (a := 20) e3 (by omega)) hE
        · rw [mY_u]
          rw [jx_u_a _ _ _ _ _ _ (show a ≠ 20 by omega)]
          exact e1 a b x1 x2 x3 x4 x5 x6
        · intro q
          rw [jx_u_a _ _ _ _ _ _ (show y + 19 ≠ y + 20 by omega)]
          exact e0 q
        · by_cases z : q = k
          · subst z
            rw [jx_u_eq]
            exact e0 _
          · rw [jx_u_j _ _ _ _ _ _ z]
            exact e2 q a (by omega)
    refine jx_runL (o := jo_X13) (cs := cs_X13_copy) (hf := jx_nh) jo_X13_ok hc_X13_copy (jx_HK_nil rfl) (fun p => p == 137) 80 ?_
    simp only [jw, ju, jx_tg, Int.cast_ofNat_Int, Int.reduceAdd, Int.reduceToNat, Nat.reduceAdd, Nat.reduceMul, Nat.reduceBEq, Nat.reduceLeDiff, Int.reduceLE, Int.reduceLT, Int.reduceEq, Int.reduceNeg, Int.reduceSub, Int.reduceMul, not_false_eq_true, true_and, and_true, and_self, Bool.or_false, Bool.false_or, Bool.or_true, Bool.true_or, List.length_nil, List.length_cons, Nat.zero_le, or_true, true_or, Nat.le_refl, ↓reduceIte, Nat.reduceEqDiff, forall_const, false_and, and_false, false_implies, implies_true, not_true_eq_false, or_false, false_or, ne_eq, jd_X13_copy, jf_X13, jx_cmp_gt, jx_cmp_lt, jx_cmp_le, jx_cmp_ge, js_X13_isSlot, js_X13_no, cs_X13_copy, jx_ck_c]
    have q1 := @jx_cmp_r (i + n) (M (y + 21) s)
    have q2 := @jx_cmp_r (j + n) (M (y + 21) t)
    rw [jx_ladd_eq r2 r5, jx_ladd_eq r4 r5]
    refine ⟨r1, fun c1 => ⟨r3, fun c2 => ?_, fun c2 => mK_no (hK.2 fun q => c2 q.2)⟩, fun c1 => mK_no (hK.2 fun q => c1 q.1)⟩
    have hK1 := hK.1 ⟨c1, c2⟩
    have g1 := h1 s c1.1 c1.2
    have g2 := h1 t c2.1 c2.2
    simp only [mY_j] at g1 g2
    refine ⟨by omega, by omega, fun c3 => mK_no (hK1.1 (Or.inl (by omega))), fun c3 => ⟨by omega, by omega, fun c4 => ?_, fun c4 => mK_no (hK1.1 (Or.inr (by omega)))⟩⟩
    have hK2 := hK1.2 (by omega)
    refine ⟨by omega, by omega, fun c5 => mK_no (hK2.1 (Or.inl (by omega))), fun c5 => ⟨by omega, by omega, fun c6 => ?_, fun c6 => mK_no (hK2.1 (Or.inr (by omega)))⟩⟩
    have hK3 := hK2.2 (by omega)
    refine ⟨r5, fun c7 => ?_, fun c7 => mK_no (hK3.1 (by omega))⟩
    have hK4 := hK3.2 (by omega)
    refine ⟨r2, fun c8 => mK_no (hK4.1 (Or.inl (by omega))), fun c8 => ⟨r4, fun c9 => mK_no (hK4.1 (Or.inr (Or.inl (by omega)))), fun c9 => ?_⟩⟩
    refine ⟨r2, r5, by omega, by omega, by omega, fun ca => mK_no (hK4.1 (Or.inr (Or.inr (Or.inl (by omega))))), fun ca => ⟨r4, r5, by omega, by omega, by omega, fun cb => ?_, fun cb => mK_no (hK4.1 (Or.inr (Or.inr (Or.inr (by omega)))))⟩⟩
    refine loop1 320 0 M (by omega) mQ_rf (fun _ => rfl) (fun q a b => by omega) mFr_rf (fun M' e1 e2 e3 => ?_)
    exact loop2 n.toNat 0 M' (by omega) c1 c2 ⟨by omega, by omega⟩ ⟨by omega, by omega⟩ (hK4.2 (by omega)) e1 e2 e3
  · exact hS.elim
/-- ready to be laid or run -/
def mm_ready (S : jx_M) : Prop := 0 < S 0 9 ∧ mm_whole S
def mm_ofs (S : jx_M) : Prop := ∀ k, 0 ≤ k → k < 3 * S 0 9 → -1 ≤ S 6 k ∧ S 6 k ≤ 15
def js_X13_isReady : jx_Sp := fun as g M Po => match as with
  | [(73, _, y)] => ((0 ≤ M y 9 ∧ M y 9 ≤ 16) ∧ mm_ofs (mY M y)) ∧ (mm_ready (mY M y) → Po (0, 0, 1) g M) ∧ (¬ mm_ready (mY M y) → Po (0, 0, 0) g M)
  | _ => False
def cs_X13_isReady : jx_Cs := [(600, 1, 0, 0, js_X13_whole)]
theorem hc_X13_isReady {D : jx_D} {l : Launch} : jx_CsOK D l "LoopLaneModel" 1 cs_X13_isReady := List.forall_mem_cons.mpr ⟨jc_X13_200 (jt_X13_whole l) (fun as g M Po (h : js_X13_whole as g M Po) => by unfold js_X13_whole at h; split at h <;> first | exact h.elim | exact ⟨_, _, _, rfl, rfl⟩) (by decide), fun _ h => absurd h List.not_mem_nil⟩
set_option maxHeartbeats 4000000 in
theorem jt_X13_isReady (l : Launch) : jx_Ct l yX13_isReady (ws_ yX13_isReady cX13_isReady 1 (some .boolean)) 1 0 0 js_X13_isReady := by
  refine jx_Ct_c (rc := 4) (by decide) rfl (fun D as g M Po hS => ?_)
  unfold js_X13_isReady at hS
  split at hS
  · rename_i n1 y
    obtain ⟨⟨hm, ho⟩, hP1, hP0⟩ := hS
    simp only [mm_ready, mY_0] at hP1 hP0
    simp only [mm_ofs, mY_0] at ho
    simp only [mY_j] at ho
    refine ⟨Nat.le_of_ble_eq_true rfl, ?_⟩
    refine jx_runL (o := jo_X13) (cs := cs_X13_isReady) (hf := jx_nh) jo_X13_ok hc_X13_isReady (jx_HK_nil rfl) (fun _ => false) 40 ?_
    simp only [jw, ju, jx_tg, Int.cast_ofNat_Int, Int.reduceAdd, Int.reduceToNat, Nat.reduceAdd, Nat.reduceMul, Nat.reduceBEq, Nat.reduceLeDiff, Int.reduceLE, Int.reduceLT, Int.reduceEq, Int.reduceNeg, Int.reduceSub, Int.reduceMul, not_false_eq_true, true_and, and_true, and_self, Bool.or_false, Bool.false_or, Bool.or_true, Bool.true_or, List.length_nil, List.length_cons, Nat.zero_le, or_true, true_or, Nat.le_refl, ↓reduceIte, Nat.reduceEqDiff, forall_const, false_and, and_false, false_implies, implies_true, not_true_eq_false, or_false, false_or, ne_eq, jd_X13_isReady, jf_X13, js_X13_whole, cs_X13_isReady, jx_ck_c]
    exact ⟨by omega, fun c => hP0 (fun q => by omega), fun c => ⟨⟨hm, ho⟩, fun w => hP1 ⟨by omega, w⟩, fun w => hP0 (fun q => w q.2)⟩⟩
  · exact hS.elim
/-- why there is no run: 0 where there is -/
noncomputable def mm_whyrun (S : jx_M) (n lb : Int) : Int := @ite _ (¬ mm_ready S ∨ (lb ≠ 0 ∧ S 0 27 = 0)) (Classical.propDecidable _) (-2) (if n < 0 then -4 else if 200 < n then -9 else 0)
theorem mm_whyrun_r {S : jx_M} {n lb : Int} : -9 ≤ mm_whyrun S n lb ∧ mm_whyrun S n lb ≤ 0 := by
  unfold mm_whyrun
  split
  · omega
  · split
    · omega
    · split <;> omega
theorem mm_whyrun_0 {S : jx_M} {n lb : Int} (h : mm_whyrun S n lb = 0) : mm_ready S ∧ (lb ≠ 0 → S 0 27 ≠ 0) ∧ 0 ≤ n ∧ n ≤ 200 := by
  unfold mm_whyrun at h
  split at h
  · omega
  · rename_i q
    split at h
    · omega
    · split at h
      · omega
      · exact ⟨Classical.byContradiction fun z => q (Or.inl z), fun z z2 => q (Or.inr ⟨z, z2⟩), by omega, by omega⟩
def js_X13_whyNoRun : jx_Sp := fun as g M Po => match as with
  | [(73, _, y), (0, _, n), (0, _, b)] => (((0 ≤ M y 9 ∧ M y 9 ≤ 16) ∧ mm_ofs (mY M y)) ∧ jx_r n ∧ jx_r b ∧ jx_r (M y 27)) ∧ Po (0, 0, mm_whyrun (mY M y) n b) g M
  | _ => False
def cs_X13_whyNoRun : jx_Cs := [(630, 1, 0, 0, js_X13_isReady)]
theorem hc_X13_whyNoRun {D : jx_D} {l : Launch} : jx_CsOK D l "LoopLaneModel" 2 cs_X13_whyNoRun := List.forall_mem_cons.mpr ⟨jc_X13_210 (jt_X13_isReady l) (fun as g M Po (h : js_X13_isReady as g M Po) => by unfold js_X13_isReady at h; split at h <;> first | exact h.elim | exact ⟨_, _, _, rfl, rfl⟩) (by decide), fun _ h => absurd h List.not_mem_nil⟩
set_option maxHeartbeats 4000000 in
theorem jt_X13_whyNoRun (l : Launch) : jx_Ct l yX13_whyNoRun (ws_ yX13_whyNoRun cX13_whyNoRun 3 (some .int)) 2 0 0 js_X13_whyNoRun := by
  refine jx_Ct_c (rc := 0) (by decide) rfl (fun D as g M Po hS => ?_)
  unfold js_X13_whyNoRun at hS
  split at hS
  · rename_i n1 y n2 n n3 b
    obtain ⟨⟨h1, r1, r2, r3⟩, hP⟩ := hS
    refine ⟨Nat.le_of_ble_eq_true rfl, ?_⟩
    have lo : (¬ mm_ready (mY M y) ∨ (b ≠ 0 ∧ M y 27 = 0)) → Po (0, 0, -2) g M := fun c => by
      unfold mm_whyrun at hP
      rw [if_pos (by rw [mY_0]; exact c)] at hP
      exact hP
    have hi : ¬ (¬ mm_ready (mY M y) ∨ (b ≠ 0 ∧ M y 27 = 0)) → (n < 0 → Po (0, 0, -4) g M) ∧ (200 < n → Po (0, 0, -9) g M) ∧ (0 ≤ n ∧ n ≤ 200 → Po (0, 0, 0) g M) := fun c => by
      unfold mm_whyrun at hP
      rw [if_neg (by rw [mY_0]; exact c)] at hP
      refine ⟨fun z => ?_, fun z => ?_, fun z => ?_⟩
      · rw [if_pos z] at hP; exact hP
      · rw [if_neg (by omega), if_pos z] at hP; exact hP
      · rw [if_neg (by omega), if_neg (by omega)] at hP; exact hP
    refine jx_runL (o := jo_X13) (cs := cs_X13_whyNoRun) (hf := jx_nh) jo_X13_ok hc_X13_whyNoRun (jx_HK_nil rfl) (fun _ => false) 40 ?_
    simp only [jw, ju, jx_tg, Int.cast_ofNat_Int, Int.reduceAdd, Int.reduceToNat, Nat.reduceAdd, Nat.reduceMul, Nat.reduceBEq, Nat.reduceLeDiff, Int.reduceLE, Int.reduceLT, Int.reduceEq, Int.reduceNeg, Int.reduceSub, Int.reduceMul, not_false_eq_true, true_and, and_true, and_self, Bool.or_false, Bool.false_or, Bool.or_true, Bool.true_or, List.length_nil, List.length_cons, Nat.zero_le, or_true, true_or, Nat.le_refl, ↓reduceIte, Nat.reduceEqDiff, forall_const, false_and, and_false, false_implies, implies_true, not_true_eq_false, or_false, false_or, ne_eq, jd_X13_whyNoRun, jf_X13, js_X13_isReady, cs_X13_whyNoRun, jx_ck_c]
    refine ⟨h1, fun c1 => ⟨r2, fun c2 => ?_, fun c2 => ⟨r3, fun c3 => ?_, fun c3 => lo (Or.inr ⟨c2, by omega⟩)⟩⟩, fun c1 => lo (Or.inl c1)⟩
    · obtain ⟨k1, k2, k3⟩ := hi (fun q => q.elim (fun z => z c1) (fun z => z.1 (by omega)))
      exact ⟨r1, fun c => ⟨r1, fun c' => k3 ⟨by omega, by omega⟩, fun c' => k2 (by omega)⟩, fun c => k1 (by omega)⟩
    · obtain ⟨k1, k2, k3⟩ := hi (fun q => q.elim (fun z => z c1) (fun z => c3 z.2))
      exact ⟨r1, fun c => ⟨r1, fun c' => k3 ⟨by omega, by omega⟩, fun c' => k2 (by omega)⟩, fun c => k1 (by omega)⟩
  · exact hS.elim
noncomputable def f_compare (n : Int) (S : jx_M) : mR := if mm_whyrun S n 1 = 0 then (1, S) else mno (mm_whyrun S n 1) S
def js_X13_compare : jx_Sp := fun as g M Po => match as with
  | [(73, _, y), (0, _, n)] => (((0 ≤ M y 9 ∧ M y 9 ≤ 16) ∧ mm_ofs (mY M y)) ∧ jx_r n ∧ jx_r (M y 27)) ∧ mK y g M Po 0 (f_compare n (mY M y)).1 (f_compare n (mY M y)).2
  | _ => False
def cs_X13_compare : jx_Cs := [(858, 3, 0, 0, js_X13_whyNoRun), (372, 2, 0, 0, js_X13_no)]
theorem hc_X13_compare {D : jx_D} {l : Launch} : jx_CsOK D l "LoopLaneModel" 3 cs_X13_compare := List.forall_mem_cons.mpr ⟨jc_X13_286 (jt_X13_whyNoRun l) (fun as g M Po (h : js_X13_whyNoRun as g M Po) => by unfold js_X13_whyNoRun at h; split at h <;> first | exact h.elim | exact ⟨_, _, _, rfl, rfl⟩) (by decide), List.forall_mem_cons.mpr ⟨jc_X13_124 (jt_X13_no l) (fun as g M Po (h : js_X13_no as g M Po) => by unfold js_X13_no at h; split at h <;> first | exact h.elim | exact ⟨_, _, _, rfl, rfl⟩) (by decide), fun _ h => absurd h List.not_mem_nil⟩⟩
set_option maxHeartbeats 4000000 in
theorem jt_X13_compare (l : Launch) : jx_Ct l yX13_compare (ws_ yX13_compare cX13_compare 3 (some .int)) 3 0 0 js_X13_compare := by
  refine jx_Ct_c (rc := 0) (by decide) rfl (fun D as g M Po hS => ?_)
  unfold js_X13_compare at hS
  split at hS
  · rename_i n1 y n2 n
    obtain ⟨⟨h1, r1, r2⟩, hK⟩ := hS
    unfold f_compare at hK
    simp only [mK_ite, mno] at hK
    try simp only [mY_0] at hK
    try simp only [mY_j] at hK
    refine ⟨Nat.le_of_ble_eq_true rfl, ?_⟩
    have hr := @mm_whyrun_r (mY M y) n 1
    refine jx_runL (o := jo_X13) (cs := cs_X13_compare) (hf := jx_nh) jo_X13_ok hc_X13_compare (jx_HK_nil rfl) (fun _ => false) 40 ?_
    simp only [jw, ju, jx_tg, Int.cast_ofNat_Int, Int.reduceAdd, Int.reduceToNat, Nat.reduceAdd, Nat.reduceMul, Nat.reduceBEq, Nat.reduceLeDiff, Int.reduceLE, Int.reduceLT, Int.reduceEq, Int.reduceNeg, Int.reduceSub, Int.reduceMul, not_false_eq_true, true_and, and_true, and_self, Bool.or_false, Bool.false_or, Bool.or_true, Bool.true_or, List.length_nil, List.length_cons, Nat.zero_le, or_true, true_or, Nat.le_refl, ↓reduceIte, Nat.reduceEqDiff, forall_const, false_and, and_false, false_implies, implies_true, not_true_eq_false, or_false, false_or, ne_eq, jd_X13_compare, jf_X13, js_X13_no, js_X13_whyNoRun, cs_X13_compare, jx_ck_c]
    refine ⟨⟨h1, r1, by decide, r2⟩, by omega, fun c => mK_s (hK.1 c), fun c => ⟨by omega, mK_no (hK.2 c)⟩⟩
  · exact hS.elim
