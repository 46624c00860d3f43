/-! the reference, 15: places, names, fewest, unwrong -/
set_option maxRecDepth 100000
def mm_life (S : jx_M) (a : Int) : Nat → Int
  | 0 => 0
  | k + 1 => if S 6 k = a then max (mm_life S a k) (S 26 ((k : Int) / 3) + S 0 27 * S 7 k - S 26 a) else mm_life S a k
def mm_places (S : jx_M) (a : Int) : Int := mm_life S a (3 * S 0 9).toNat / S 0 27 + 1
/-- begins and turns back, as far as numbers go -/
def mm_bk (S : jx_M) : Prop := (∀ a, 0 ≤ a → a < S 0 9 → 0 ≤ S 26 a ∧ S 26 a ≤ 100000) ∧ ∀ k, 0 ≤ k → k < 3 * S 0 9 → -1 ≤ S 7 k ∧ S 7 k ≤ 4
theorem mm_prod {b d : Int} (hb : 0 ≤ b ∧ b ≤ 60) (hd : -1 ≤ d ∧ d ≤ 4) : -60 ≤ b * d ∧ b * d ≤ 240 := by
  rcases (show d = -1 ∨ d = 0 ∨ d = 1 ∨ d = 2 ∨ d = 3 ∨ d = 4 by omega) with rfl | rfl | rfl | rfl | rfl | rfl <;> omega
theorem mm_life_r {S : jx_M} {a : Int} (hb : 0 ≤ S 0 27 ∧ S 0 27 ≤ 60) (ha : 0 ≤ a ∧ a < S 0 9) (h : mm_bk S) : ∀ k : Nat, (k : Int) ≤ 3 * S 0 9 → 0 ≤ mm_life S a k ∧ mm_life S a k ≤ 100240
  | 0, _ => ⟨Int.le_refl _, by show (0 : Int) ≤ 100240; omega⟩
  | k + 1, hk => by
    have ih := mm_life_r hb ha h k (by omega)
    have h1 := h.1 ((k : Int) / 3) (by omega) (by omega)
    have h2 := h.1 a ha.1 ha.2
    have h3 := mm_prod hb (h.2 k (by omega) (by omega))
    unfold mm_life
    split <;> omega
theorem mm_places_r {S : jx_M} {a : Int} (hb : 1 ≤ S 0 27 ∧ S 0 27 ≤ 60) (ha : 0 ≤ a ∧ a < S 0 9) (h : mm_bk S) : 1 ≤ mm_places S a ∧ mm_places S a ≤ 100241 := by
  have h1 := mm_life_r ⟨by omega, hb.2⟩ ha h (3 * S 0 9).toNat (by omega)
  have h2 := Int.ediv_nonneg h1.1 (show 0 ≤ S 0 27 by omega)
  have h3 := Int.ediv_le_self (S 0 27) h1.1
  unfold mm_places
  omega
def js_X13_placesOf : jx_Sp := fun as g M Po => match as with
  | [(73, _, y), (0, _, a)] => ((0 ≤ M y 9 ∧ M y 9 ≤ 16) ∧ (1 ≤ M y 27 ∧ M y 27 ≤ 60) ∧ (0 ≤ a ∧ a < M y 9) ∧ mm_ofs (mY M y) ∧ mm_bk (mY M y)) ∧ Po (0, 0, mm_places (mY M y) a) g M
  | _ => False
set_option maxHeartbeats 4000000 in
theorem jt_X13_placesOf (l : Launch) : jx_Ct l yX13_placesOf (ws_ yX13_placesOf cX13_placesOf 5 (some .int)) 0 0 0 js_X13_placesOf := by
  refine jx_Ct_c (rc := 0) (by decide) rfl (fun D as g M Po hS => ?_)
  unfold js_X13_placesOf at hS
  split at hS
  · rename_i n1 y n2 a
    obtain ⟨⟨h1, h2, h3, h4, h5⟩, hP⟩ := hS
    refine ⟨Nat.le_of_ble_eq_true rfl, ?_⟩
    have h5a := h5.1
    have h5b := h5.2
    unfold mm_ofs at h4
    rw [mY_0] at h4 h5a h5b
    have hlr := fun k => mm_life_r (S := mY M y) (a := a) (by rw [mY_0]; omega) (by rw [mY_0]; exact h3) h5 k
    rw [mY_0] at hlr
    have loop : ∀ (f k : Nat) (P : jx_A), (k : Int) + f = 3 * M y 9 → jx_V D l (yX13_placesOf.cls, cX13_placesOf, 5, 0, [], 0, 0, 0, yX13_placesOf.name) Po 4 [(73, n1, y), (0, n2, a), (0, 0, mm_life (mY M y) a k), (0, 0, (k : Int)), P] [] (0, 0) g (M) := by
      intro f
      induction f with
      | zero =>
        intro k P hk
        have hr := hlr k (by omega)
        refine jx_runL (o := jo_X13) (cs := []) (hf := jx_nh) jo_X13_ok jx_cs0 (jx_HK_nil rfl) (fun p => p == 4) 60 ?_
        simp only [jw, ju, jx_tg, Int.cast_ofNat_Int, Int.reduceAdd, Int.reduceToNat, Nat.reduceAdd, Nat.reduceMul, Nat.reduceBEq, Nat.reduceLeDiff, Int.reduceLE, Int.reduceLT, Int.reduceEq, Int.reduceNeg, Int.reduceSub, Int.reduceMul, not_false_eq_true, true_and, and_true, and_self, Bool.or_false, Bool.false_or, Bool.or_true, Bool.true_or, List.length_nil, List.length_cons, Nat.zero_le, or_true, true_or, Nat.le_refl, ↓reduceIte, Nat.reduceEqDiff, forall_const, false_and, and_false, false_implies, implies_true, not_true_eq_false, or_false, false_or, ne_eq, jd_X13_placesOf, jf_X13]
        refine ⟨by omega, fun c => ⟨by omega, ?_⟩, fun c => by omega⟩
        rw [Int.tdiv_eq_ediv_of_nonneg (by omega)]
        unfold mm_places at hP
        rw [mY_0, mY_0, show (3 * M y 9).toNat = k by omega] at hP
        exact hP
      | succ f ih =>
        intro k P hk
        have hr := hlr k (by omega)
        have hx := fun P => ih (k + 1) P (by omega)
        have el : mm_life (mY M y) a (k + 1) = if M (y + 6) k = a then max (mm_life (mY M y) a k) (M (y + 26) ((k : Int) / 3) + M y 27 * M (y + 7) k - M (y + 26) a) else mm_life (mY M y) a k := by
          rw [← mY_0 M y 27]
          rfl
        have q1 := h4 k (by omega) (by omega)
        have q2 := h5a ((k : Int) / 3) (by omega) (by omega)
        have q3 := h5a a h3.1 h3.2
        have q4 := mm_prod (b := M y 27) (by omega) (h5b k (by omega) (by omega))
        simp only [mY_j] at q1 q2 q3 q4
        by_cases hc : M (y + 6) k = a
        · rw [el, if_pos hc] at hx
          refine jx_runL (o := jo_X13) (cs := []) (hf := jx_nh) jo_X13_ok jx_cs0 (jx_HK_nil rfl) (fun p => p == 27 || p == 65) 60 ?_
          simp only [jw, ju, jx_tg, Int.cast_ofNat_Int, Int.reduceAdd, Int.reduceToNat, Nat.reduceAdd, Nat.reduceMul, Nat.reduceBEq, Nat.reduceLeDiff, Int.reduceLE, Int.reduceLT, Int.reduceEq, Int.reduceNeg, Int.reduceSub, Int.reduceMul, not_false_eq_true, true_and, and_true, and_self, Bool.or_false, Bool.false_or, Bool.or_true, Bool.true_or, List.length_nil, List.length_cons, Nat.zero_le, or_true, true_or, Nat.le_refl, ↓reduceIte, Nat.reduceEqDiff, forall_const, false_and, and_false, false_implies, implies_true, not_true_eq_false, or_false, false_or, ne_eq, jd_X13_placesOf, jf_X13]
          refine ⟨by omega, fun c => by omega, fun c => ⟨by omega, by omega, fun c2 => ?_, fun c2 => by omega⟩⟩
          refine jx_runL (o := jo_X13) (cs := []) (hf := jx_nh) jo_X13_ok jx_cs0 (jx_HK_nil rfl) (fun p => p == 4) 60 ?_
          simp only [jw, ju, jx_tg, Int.cast_ofNat_Int, Int.reduceAdd, Int.reduceToNat, Nat.reduceAdd, Nat.reduceMul, Nat.reduceBEq, Nat.reduceLeDiff, Int.reduceLE, Int.reduceLT, Int.reduceEq, Int.reduceNeg, Int.reduceSub, Int.reduceMul, not_false_eq_true, true_and, and_true, and_self, Bool.or_false, Bool.false_or, Bool.or_true, Bool.true_or, List.length_nil, List.length_cons, Nat.zero_le, or_true, true_or, Nat.le_refl, ↓reduceIte, Nat.reduceEqDiff, forall_const, false_and, and_false, false_implies, implies_true, not_true_eq_false, or_false, false_or, ne_eq, jd_X13_placesOf, jf_X13]
          rw [Int.tdiv_eq_ediv_of_nonneg (by omega)]
          refine ⟨by omega, by omega, by omega, by omega, by omega, fun c3 => ?_, fun c3 => ?_⟩
          · rw [show max (mm_life (mY M y) a k) (M (y + 26) ((k : Int) / 3) + M y 27 * M (y + 7) k - M (y + 26) a) = mm_life (mY M y) a k by omega] at hx
            exact hx _
          · rw [show max (mm_life (mY M y) a k) (M (y + 26) ((k : Int) / 3) + M y 27 * M (y + 7) k - M (y + 26) a) = M (y + 26) ((k : Int) / 3) + M y 27 * M (y + 7) k - M (y + 26) a by omega] at hx
            exact hx _
        · rw [el, if_neg hc] at hx
          refine jx_runL (o := jo_X13) (cs := []) (hf := jx_nh) jo_X13_ok jx_cs0 (jx_HK_nil rfl) (fun p => p == 4 || p == 27) 60 ?_
          simp only [jw, ju, jx_tg, Int.cast_ofNat_Int, Int.reduceAdd, Int.reduceToNat, Nat.reduceAdd, Nat.reduceMul, Nat.reduceBEq, Nat.reduceLeDiff, Int.reduceLE, Int.reduceLT, Int.reduceEq, Int.reduceNeg, Int.reduceSub, Int.reduceMul, not_false_eq_true, true_and, and_true, and_self, Bool.or_false, Bool.false_or, Bool.or_true, Bool.true_or, List.length_nil, List.length_cons, Nat.zero_le, or_true, true_or, Nat.le_refl, ↓reduceIte, Nat.reduceEqDiff, forall_const, false_and, and_false, false_implies, implies_true, not_true_eq_false, or_false, false_or, ne_eq, jd_X13_placesOf, jf_X13]
          exact ⟨by omega, fun c => by omega, fun c => ⟨by omega, by omega, fun c2 => by omega, fun c2 => hx _⟩⟩
    refine jx_runL (o := jo_X13) (cs := []) (hf := jx_nh) jo_X13_ok jx_cs0 (jx_HK_nil rfl) (fun p => p == 4) 60 ?_
    simp only [jw, ju, jx_tg, Int.cast_ofNat_Int, Int.reduceAdd, Int.reduceToNat, Nat.reduceAdd, Nat.reduceMul, Nat.reduceBEq, Nat.reduceLeDiff, Int.reduceLE, Int.reduceLT, Int.reduceEq, Int.reduceNeg, Int.reduceSub, Int.reduceMul, not_false_eq_true, true_and, and_true, and_self, Bool.or_false, Bool.false_or, Bool.or_true, Bool.true_or, List.length_nil, List.length_cons, Nat.zero_le, or_true, true_or, Nat.le_refl, ↓reduceIte, Nat.reduceEqDiff, forall_const, false_and, and_false, false_implies, implies_true, not_true_eq_false, or_false, false_or, ne_eq, jd_X13_placesOf, jf_X13]
    exact loop (3 * M y 9).toNat 0 _ (by omega)
  · exact hS.elim
noncomputable def f_names (a : Int) (S : jx_M) : mR := if S 0 27 = 0 then mno (-2) S else @ite _ (mm_isa S a) (Classical.propDecidable _) (mm_places S a, S) (mno (-3) S)
def js_X13_names : jx_Sp := fun as g M Po => match as with
  | [(73, _, y), (0, _, a)] => ((0 ≤ M y 9 ∧ M y 9 ≤ 16) ∧ (0 ≤ M y 27 ∧ M y 27 ≤ 60) ∧ jx_r a ∧ mm_ofs (mY M y) ∧ (M y 27 ≠ 0 → mm_bk (mY M y))) ∧ mK y g M Po 0 (f_names a (mY M y)).1 (f_names a (mY M y)).2
  | _ => False
def cs_X13_names : jx_Cs := [(477, 2, 0, 0, js_X13_isAct), (372, 2, 0, 0, js_X13_no), (720, 2, 0, 0, js_X13_placesOf)]
theorem hc_X13_names {D : jx_D} {l : Launch} : jx_CsOK D l "LoopLaneModel" 3 cs_X13_names := List.forall_mem_cons.mpr ⟨jc_X13_159 (jt_X13_isAct l) (fun as g M Po (h : js_X13_isAct as g M Po) => by unfold js_X13_isAct at h; split at h <;> first | exact h.elim | exact ⟨_, _, _, rfl, rfl⟩) (by decide), List.forall_mem_cons.mpr ⟨jc_X13_124 (jt_X13_no l) (fun as g M Po (h : js_X13_no as g M Po) => by unfold js_X13_no at h; split at h <;> first | exact h.elim | exact ⟨_, _, _, rfl, rfl⟩) (by decide), List.forall_mem_cons.mpr ⟨jc_X13_240 (jt_X13_placesOf l) (fun as g M Po (h : js_X13_placesOf as g M Po) => by unfold js_X13_placesOf at h; split at h <;> first | exact h.elim | exact ⟨_, _, _, rfl, rfl⟩) (by decide), fun _ h => absurd h List.not_mem_nil⟩⟩⟩
set_option maxHeartbeats 4000000 in
theorem jt_X13_names (l : Launch) : jx_Ct l yX13_names (ws_ yX13_names cX13_names 2 (some .int)) 3 0 0 js_X13_names := by
  refine jx_Ct_c (rc := 0) (by decide) rfl (fun D as g M Po hS => ?_)
  unfold js_X13_names at hS
  split at hS
  · rename_i n1 y n2 a
    obtain ⟨⟨h1, h2, r1, h3, h4⟩, hK⟩ := hS
    unfold f_names at hK
    simp only [mK_ite, mno] at hK
    simp only [mm_isa] at hK
    try simp only [mY_0] at hK
    try simp only [mY_j] at hK
    refine ⟨Nat.le_of_ble_eq_true rfl, ?_⟩
    refine jx_runL (o := jo_X13) (cs := cs_X13_names) (hf := jx_nh) jo_X13_ok hc_X13_names (jx_HK_nil rfl) (fun _ => false) 60 ?_
    simp only [jw, ju, jx_tg, Int.cast_ofNat_Int, Int.reduceAdd, Int.reduceToNat, Nat.reduceAdd, Nat.reduceMul, Nat.reduceBEq, Nat.reduceLeDiff, Int.reduceLE, Int.reduceLT, Int.reduceEq, Int.reduceNeg, Int.reduceSub, Int.reduceMul, not_false_eq_true, true_and, and_true, and_self, Bool.or_false, Bool.false_or, Bool.or_true, Bool.true_or, List.length_nil, List.length_cons, Nat.zero_le, or_true, true_or, Nat.le_refl, ↓reduceIte, Nat.reduceEqDiff, forall_const, false_and, and_false, false_implies, implies_true, not_true_eq_false, or_false, false_or, ne_eq, jd_X13_names, jf_X13, js_X13_isAct, js_X13_no, js_X13_placesOf, cs_X13_names, jx_ck_c]
    exact ⟨by omega, fun c => ⟨r1, by omega, fun c1 => ⟨⟨h1, by omega, c1, h3, h4 c⟩, mK_s ((hK.2 c).1 c1)⟩, fun c1 => mK_no ((hK.2 c).2 c1)⟩, fun c => mK_no (hK.1 (by omega))⟩
  · exact hS.elim
noncomputable def f_fewest (w : Int) (S : jx_M) : mR := if S 0 27 = 0 then mno (-2) S else @ite _ (0 ≤ w ∧ w ≤ 1) (Classical.propDecidable _) (if w = 0 then (mm_sum (mm_places S) (S 0 9).toNat, S) else (S 0 9 * mm_max (mm_places S) (S 0 9).toNat, S)) (mno (-9) S)
def js_X13_fewest : jx_Sp := fun as g M Po => match as with
  | [(73, _, y), (0, _, w)] => ((0 ≤ M y 9 ∧ M y 9 ≤ 16) ∧ (0 ≤ M y 27 ∧ M y 27 ≤ 60) ∧ jx_r w ∧ mm_ofs (mY M y) ∧ (M y 27 ≠ 0 → mm_bk (mY M y))) ∧ mK y g M Po 0 (f_fewest w (mY M y)).1 (f_fewest w (mY M y)).2
  | _ => False
def cs_X13_fewest : jx_Cs := [(412, 3, 0, 0, js_X13_isIn), (372, 2, 0, 0, js_X13_no), (720, 2, 0, 0, js_X13_placesOf)]
theorem hc_X13_fewest {D : jx_D} {l : Launch} : jx_CsOK D l "LoopLaneModel" 3 cs_X13_fewest := List.forall_mem_cons.mpr ⟨jc_X13_137 (jt_X13_isIn l) (fun as g M Po (h : js_X13_isIn as g M Po) => by unfold js_X13_isIn at h; split at h <;> first | exact h.elim | exact rfl) (by decide), List.forall_mem_cons.mpr ⟨jc_X13_124 (jt_X13_no l) (fun as g M Po (h : js_X13_no as g M Po) => by unfold js_X13_no at h; split at h <;> first | exact h.elim | exact ⟨_, _, _, rfl, rfl⟩) (by decide), List.forall_mem_cons.mpr ⟨jc_X13_240 (jt_X13_placesOf l) (fun as g M Po (h : js_X13_placesOf as g M Po) => by unfold js_X13_placesOf at h; split at h <;> first | exact h.elim | exact ⟨_, _, _, rfl, rfl⟩) (by decide), fun _ h => absurd h List.not_mem_nil⟩⟩⟩
set_option maxHeartbeats 4000000 in
theorem jt_X13_fewest (l : Launch) : jx_Ct l yX13_fewest (ws_ yX13_fewest cX13_fewest 6 (some .int)) 3 0 0 js_X13_fewest := by
  refine jx_Ct_c (rc := 0) (by decide) rfl (fun D as g M Po hS => ?_)
  unfold js_X13_fewest at hS
  split at hS
  · rename_i n1 y n2 w
    obtain ⟨⟨h1, h2, r1, h3, h4⟩, hK⟩ := hS
    unfold f_fewest at hK
    simp only [mK_ite, mno] at hK
    simp only [mY_0] at hK
    refine ⟨Nat.le_of_ble_eq_true rfl, ?_⟩
    have loop : ∀ (f k : Nat) (P : jx_A), (k : Int) + f = M y 9 → M y 27 ≠ 0 → (0 ≤ w ∧ w ≤ 1) → jx_V D l (yX13_fewest.cls, cX13_fewest, 6, 0, [], 3, 0, 0, yX13_fewest.name) Po 38 [(73, n1, y), (0, n2, w), (0, 0, mm_sum (mm_places (mY M y)) k), (0, 0, mm_max (mm_places (mY M y)) k), (0, 0, (k : Int)), P] [] (0, 0) g (M) := by
      intro f
      induction f with
      | zero =>
        intro k P hk c0 c1
        have hE := (hK.2 c0).1 c1
        rw [show (M y 9).toNat = k by omega] at hE
        refine jx_runL (o := jo_X13) (cs := cs_X13_fewest) (hf := jx_nh) jo_X13_ok hc_X13_fewest (jx_HK_nil rfl) (fun p => p == 38) 60 ?_
        simp only [jw, ju, jx_tg, Int.cast_ofNat_Int, Int.reduceAdd, Int.reduceToNat, Nat.reduceAdd, Nat.reduceMul, Nat.reduceBEq, Nat.reduceLeDiff, Int.reduceLE, Int.reduceLT, Int.reduceEq, Int.reduceNeg, Int.reduceSub, Int.reduceMul, not_false_eq_true, true_and, and_true, and_self, Bool.or_false, Bool.false_or, Bool.or_true, Bool.true_or, List.length_nil, List.length_cons, Nat.zero_le, or_true, true_or, Nat.le_refl, ↓reduceIte, Nat.reduceEqDiff, forall_const, false_and, and_false, false_implies, implies_true, not_true_eq_false, or_false, false_or, ne_eq, jd_X13_fewest, jf_X13, js_X13_isIn, js_X13_no, js_X13_placesOf, cs_X13_fewest, jx_ck_c]
        exact ⟨by omega, fun c => ⟨by omega, fun c2 => mK_s (hE.2 c2), fun c2 => mK_s (hE.1 (by omega))⟩, fun c => by omega⟩
      | succ f ih =>
        intro k P hk c0 c1
        have hb := h4 c0
        have hpr := fun v q0 q1 => mm_places_r (S := mY M y) (a := v) (by rw [mY_0]; omega) ⟨q0, q1⟩ hb
        rw [mY_0] at hpr
        have m1 := mm_max_r (mm_places (mY M y)) 100241 (by omega) k (fun v q0 q1 => (hpr v q0 (by omega)).2)
        have p1 := hpr k (by omega) (by omega)
        have hx := fun P => ih (k + 1) P (by omega) c0 c1
        have e1 : mm_max (mm_places (mY M y)) (k + 1) = max (mm_max (mm_places (mY M y)) k) (mm_places (mY M y) k) := rfl
        have e2 : mm_sum (mm_places (mY M y)) (k + 1) = mm_sum (mm_places (mY M y)) k + mm_places (mY M y) k := rfl
        rw [e1, e2] at hx
        refine jx_runL (o := jo_X13) (cs := cs_X13_fewest) (hf := jx_nh) jo_X13_ok hc_X13_fewest (jx_HK_nil rfl) (fun p => p == 38) 60 ?_
        simp only [jw, ju, jx_tg, Int.cast_ofNat_Int, Int.reduceAdd, Int.reduceToNat, Nat.reduceAdd, Nat.reduceMul, Nat.reduceBEq, Nat.reduceLeDiff, Int.reduceLE, Int.reduceLT, Int.reduceEq, Int.reduceNeg, Int.reduceSub, Int.reduceMul, not_false_eq_true, true_and, and_true, and_self, Bool.or_false, Bool.false_or, Bool.or_true, Bool.true_or, List.length_nil, List.length_cons, Nat.zero_le, or_true, true_or, Nat.le_refl, ↓reduceIte, Nat.reduceEqDiff, forall_const, false_and, and_false, false_implies, implies_true, not_true_eq_false, or_false, false_or, ne_eq, jd_X13_fewest, jf_X13, js_X13_isIn, js_X13_no, js_X13_placesOf, cs_X13_fewest, jx_ck_c]
        refine ⟨by omega, fun c => by omega, fun c => ⟨⟨h1, by omega, by omega, h3, hb⟩, by omega, fun c2 => ?_, fun c2 => ?_⟩⟩
        · rw [show max (mm_max (mm_places (mY M y)) k) (mm_places (mY M y) k) = mm_max (mm_places (mY M y)) k by omega] at hx
          exact hx _
        · rw [show max (mm_max (mm_places (mY M y)) k) (mm_places (mY M y) k) = mm_places (mY M y) k by omega] at hx
          exact hx _
    refine jx_runL (o := jo_X13) (cs := cs_X13_fewest) (hf := jx_nh) jo_X13_ok hc_X13_fewest (jx_HK_nil rfl) (fun p => p == 38) 60 ?_
    simp only [jw, ju, jx_tg, Int.cast_ofNat_Int, Int.reduceAdd, Int.reduceToNat, Nat.reduceAdd, Nat.reduceMul, Nat.reduceBEq, Nat.reduceLeDiff, Int.reduceLE, Int.reduceLT, Int.reduceEq, Int.reduceNeg, Int.reduceSub, Int.reduceMul, not_false_eq_true, true_and, and_true, and_self, Bool.or_false, Bool.false_or, Bool.or_true, Bool.true_or, List.length_nil, List.length_cons, Nat.zero_le, or_true, true_or, Nat.le_refl, ↓reduceIte, Nat.reduceEqDiff, forall_const, false_and, and_false, false_implies, implies_true, not_true_eq_false, or_false, false_or, ne_eq, jd_X13_fewest, jf_X13, js_X13_isIn, js_X13_no, js_X13_placesOf, cs_X13_fewest, jx_ck_c]
    exact ⟨by omega, fun c => ⟨r1, fun c1 => loop (M y 9).toNat 0 _ (by omega) c c1, fun c1 => mK_no ((hK.2 c).2 c1)⟩, fun c => mK_no (hK.1 (by omega))⟩
  · exact hS.elim
/-- nothing is wrong -/
def mu_unwrong (M : jx_M) (y : Int) : jx_M := jx_u (jx_u (jx_u (jx_u (jx_u (jx_u M (y + 31) 0 (-1)) (y + 31) 1 (-1)) (y + 31) 2 (-1)) (y + 31) 3 (-1)) (y + 31) 4 (-1)) (y + 31) 5 (-1)
def js_X13_unwrong : jx_Sp := fun as g M Po => match as with
  | [(73, _, y)] => Po (3, 0, 0) g (mu_unwrong M y)
  | _ => False
set_option maxHeartbeats 4000000 in
theorem jt_X13_unwrong (l : Launch) : jx_Ct l yX13_unwrong (ws_ yX13_unwrong cX13_unwrong 2 none) 0 0 0 js_X13_unwrong := by
  refine jx_Ct_c (rc := 3) (by decide) rfl (fun D as g M Po hS => ?_)
  unfold js_X13_unwrong at hS
  split at hS
  · rename_i n1 y
    refine ⟨Nat.le_of_ble_eq_true rfl, ?_⟩
    refine jx_runL (o := jo_X13) (cs := []) (hf := jx_nh) jo_X13_ok jx_cs0 (jx_HK_nil rfl) (fun _ => false) 90 ?_
    simp only [jw, ju, jx_tg, Int.cast_ofNat_Int, Int.reduceAdd, Int.reduceToNat, Nat.reduceAdd, Nat.reduceMul, Nat.reduceBEq, Nat.reduceLeDiff, Int.reduceLE, Int.reduceLT, Int.reduceEq, Int.reduceNeg, Int.reduceSub, Int.reduceMul, not_false_eq_true, true_and, and_true, and_self, Bool.or_false, Bool.false_or, Bool.or_true, Bool.true_or, List.length_nil, List.length_cons, Nat.zero_le, or_true, true_or, Nat.le_refl, ↓reduceIte, Nat.reduceEqDiff, forall_const, false_and, and_false, false_implies, implies_true, not_true_eq_false, or_false, false_or, ne_eq, jd_X13_unwrong, jf_X13]
    exact hS
  · exact hS.elim
