/-! the reference, 5: reckon, fetch, store, pick, works, first, unit -/
set_option maxRecDepth 100000
/-- an operand can be -/
def mm_okop (n x d : Int) : Prop := (0 ≤ x ∧ x ≤ 15) ∧ (d = 0 → x < n)
def js_X13_reckon : jx_Sp := fun as g M Po => match as with
  | [(73, _, y), (0, _, w), (0, _, x), (0, _, dx), (0, _, z), (0, _, dz)] => (0 ≤ M y 9 ∧ M y 9 ≤ 16) ∧ (jx_r w ∧ jx_r x ∧ jx_r dx ∧ jx_r z ∧ jx_r dz) ∧
      (¬ ((1 ≤ w ∧ w ≤ 3) ∧ (0 ≤ dx ∧ dx ≤ 4) ∧ (0 ≤ dz ∧ dz ≤ 4)) → Po (0, 0, -9) g (mu_no M y (-9))) ∧
      ((1 ≤ w ∧ w ≤ 3) ∧ (0 ≤ dx ∧ dx ≤ 4) ∧ (0 ≤ dz ∧ dz ≤ 4) → (¬ (mm_okop (M y 9) x dx ∧ mm_okop (M y 9) z dz) → Po (0, 0, -3) g (mu_no M y (-3))) ∧
        (mm_okop (M y 9) x dx ∧ mm_okop (M y 9) z dz → (M y 9 = 16 → Po (0, 0, -10) g (mu_no M y (-10))) ∧ (M y 9 ≠ 16 → Po (0, 0, M y 9) g (mu_adds M y (M y 9) w (-1) x dx z dz))))
  | _ => False
def cs_X13_reckon : jx_Cs := [(412, 3, 0, 0, js_X13_isIn), (448, 1, 0, 0, js_X13_areTurns), (372, 2, 0, 0, js_X13_no), (459, 3, 0, 0, js_X13_isBeyond), (429, 7, 0, 0, js_X13_adds)]
theorem hc_X13_reckon {D : jx_D} {l : Launch} : jx_CsOK D l "LoopLaneModel" 3 cs_X13_reckon := List.forall_mem_cons.mpr ⟨jc_X13_137 (jt_X13_isIn l) (fun as g M Po (h : js_X13_isIn as g M Po) => by unfold js_X13_isIn at h; split at h <;> first | exact h.elim | exact rfl) (by decide), List.forall_mem_cons.mpr ⟨jc_X13_149 (jt_X13_areTurns l) (fun as g M Po (h : js_X13_areTurns as g M Po) => by unfold js_X13_areTurns at h; split at h <;> first | exact h.elim | exact rfl) (by decide), List.forall_mem_cons.mpr ⟨jc_X13_124 (jt_X13_no l) (fun as g M Po (h : js_X13_no as g M Po) => by unfold js_X13_no at h; split at h <;> first | exact h.elim | exact ⟨_, _, _, rfl, rfl⟩) (by decide), List.forall_mem_cons.mpr ⟨jc_X13_153 (jt_X13_isBeyond l) (fun as g M Po (h : js_X13_isBeyond as g M Po) => by unfold js_X13_isBeyond at h; split at h <;> first | exact h.elim | exact ⟨_, _, _, rfl, rfl⟩) (by decide), List.forall_mem_cons.mpr ⟨jc_X13_143 (jt_X13_adds l) (fun as g M Po (h : js_X13_adds as g M Po) => by unfold js_X13_adds at h; split at h <;> first | exact h.elim | exact ⟨_, _, _, rfl, rfl⟩) (by decide), fun _ h => absurd h List.not_mem_nil⟩⟩⟩⟩⟩
set_option maxHeartbeats 4000000 in
theorem jt_X13_reckon (l : Launch) : jx_Ct l yX13_reckon (ws_ yX13_reckon cX13_reckon 6 (some .int)) 3 0 0 js_X13_reckon := by
  refine jx_Ct_c (rc := 0) (by decide) rfl (fun D as g M Po hS => ?_)
  unfold js_X13_reckon at hS
  split at hS
  · rename_i n1 y n2 w n3 x n4 dx n5 z n6 dz
    obtain ⟨h1, ⟨r1, r2, r3, r4, r5⟩, h2, h3⟩ := hS
    refine ⟨Nat.le_of_ble_eq_true rfl, ?_⟩
    refine jx_runL (o := jo_X13) (cs := cs_X13_reckon) (hf := jx_nh) jo_X13_ok hc_X13_reckon (jx_HK_nil rfl) (fun _ => false) 80 ?_
    simp only [jw, ju, jx_tg, Int.cast_ofNat_Int, Int.reduceAdd, Int.reduceToNat, Nat.reduceAdd, Nat.reduceMul, Nat.reduceBEq, Nat.reduceLeDiff, Int.reduceLE, Int.reduceLT, Int.reduceEq, Int.reduceNeg, Int.reduceSub, Int.reduceMul, not_false_eq_true, true_and, and_true, and_self, Bool.or_false, Bool.false_or, Bool.or_true, Bool.true_or, List.length_nil, List.length_cons, Nat.zero_le, or_true, true_or, Nat.le_refl, ↓reduceIte, Nat.reduceEqDiff, forall_const, false_and, and_false, false_implies, implies_true, not_true_eq_false, or_false, false_or, ne_eq, jd_X13_reckon, jf_X13, js_X13_adds, js_X13_areTurns, js_X13_isBeyond, js_X13_isIn, js_X13_no, cs_X13_reckon, jx_ck_c]
    refine ⟨r1, fun c1 => ⟨r3, fun c2 => ⟨r5, fun c3 => ?_, fun c3 => h2 (by omega)⟩, fun c2 => h2 (by omega)⟩, fun c1 => h2 (by omega)⟩
    obtain ⟨k1, k2⟩ := h3 ⟨c1, c2, c3⟩
    refine ⟨r2, r3, by omega, fun c4 => ⟨r4, r5, by omega, fun c5 => ⟨h1, (k2 ⟨c4, c5⟩).1, (k2 ⟨c4, c5⟩).2⟩, fun c5 => k1 fun q => c5 q.2⟩, fun c4 => k1 fun q => c4 q.1⟩
  · exact hS.elim
def js_X13_fetch : jx_Sp := fun as g M Po => match as with
  | [(73, _, y), (0, _, s), (0, _, x), (0, _, dx)] => (0 ≤ M y 9 ∧ M y 9 ≤ 16) ∧ (jx_r s ∧ jx_r x ∧ jx_r dx) ∧
      (¬ (0 ≤ dx ∧ dx ≤ 4) → Po (0, 0, -9) g (mu_no M y (-9))) ∧
      (0 ≤ dx ∧ dx ≤ 4 → (¬ ((0 ≤ s ∧ s ≤ 7) ∧ mm_okop (M y 9) x dx) → Po (0, 0, -3) g (mu_no M y (-3))) ∧
        ((0 ≤ s ∧ s ≤ 7) ∧ mm_okop (M y 9) x dx → (M y 9 = 16 → Po (0, 0, -10) g (mu_no M y (-10))) ∧ (M y 9 ≠ 16 → Po (0, 0, M y 9) g (mu_adds M y (M y 9) 4 s x dx (-1) (-1)))))
  | _ => False
def cs_X13_fetch : jx_Cs := [(412, 3, 0, 0, js_X13_isIn), (448, 1, 0, 0, js_X13_areTurns), (372, 2, 0, 0, js_X13_no), (459, 3, 0, 0, js_X13_isBeyond), (429, 7, 0, 0, js_X13_adds)]
theorem hc_X13_fetch {D : jx_D} {l : Launch} : jx_CsOK D l "LoopLaneModel" 3 cs_X13_fetch := List.forall_mem_cons.mpr ⟨jc_X13_137 (jt_X13_isIn l) (fun as g M Po (h : js_X13_isIn as g M Po) => by unfold js_X13_isIn at h; split at h <;> first | exact h.elim | exact rfl) (by decide), List.forall_mem_cons.mpr ⟨jc_X13_149 (jt_X13_areTurns l) (fun as g M Po (h : js_X13_areTurns as g M Po) => by unfold js_X13_areTurns at h; split at h <;> first | exact h.elim | exact rfl) (by decide), List.forall_mem_cons.mpr ⟨jc_X13_124 (jt_X13_no l) (fun as g M Po (h : js_X13_no as g M Po) => by unfold js_X13_no at h; split at h <;> first | exact h.elim | exact ⟨_, _, _, rfl, rfl⟩) (by decide), List.forall_mem_cons.mpr ⟨jc_X13_153 (jt_X13_isBeyond l) (fun as g M Po (h : js_X13_isBeyond as g M Po) => by unfold js_X13_isBeyond at h; split at h <;> first | exact h.elim | exact ⟨_, _, _, rfl, rfl⟩) (by decide), List.forall_mem_cons.mpr ⟨jc_X13_143 (jt_X13_adds l) (fun as g M Po (h : js_X13_adds as g M Po) => by unfold js_X13_adds at h; split at h <;> first | exact h.elim | exact ⟨_, _, _, rfl, rfl⟩) (by decide), fun _ h => absurd h List.not_mem_nil⟩⟩⟩⟩⟩
set_option maxHeartbeats 4000000 in
theorem jt_X13_fetch (l : Launch) : jx_Ct l yX13_fetch (ws_ yX13_fetch cX13_fetch 4 (some .int)) 3 0 0 js_X13_fetch := by
  refine jx_Ct_c (rc := 0) (by decide) rfl (fun D as g M Po hS => ?_)
  unfold js_X13_fetch at hS
  split at hS
  · rename_i n1 y n2 s n3 x n4 dx
    obtain ⟨h1, ⟨r1, r2, r3⟩, h2, h3⟩ := hS
    refine ⟨Nat.le_of_ble_eq_true rfl, ?_⟩
    refine jx_runL (o := jo_X13) (cs := cs_X13_fetch) (hf := jx_nh) jo_X13_ok hc_X13_fetch (jx_HK_nil rfl) (fun _ => false) 80 ?_
    simp only [jw, ju, jx_tg, Int.cast_ofNat_Int, Int.reduceAdd, Int.reduceToNat, Nat.reduceAdd, Nat.reduceMul, Nat.reduceBEq, Nat.reduceLeDiff, Int.reduceLE, Int.reduceLT, Int.reduceEq, Int.reduceNeg, Int.reduceSub, Int.reduceMul, not_false_eq_true, true_and, and_true, and_self, Bool.or_false, Bool.false_or, Bool.or_true, Bool.true_or, List.length_nil, List.length_cons, Nat.zero_le, or_true, true_or, Nat.le_refl, ↓reduceIte, Nat.reduceEqDiff, forall_const, false_and, and_false, false_implies, implies_true, not_true_eq_false, or_false, false_or, ne_eq, jd_X13_fetch, jf_X13, js_X13_adds, js_X13_areTurns, js_X13_isBeyond, js_X13_isIn, js_X13_no, cs_X13_fetch, jx_ck_c]
    refine ⟨r3, fun c1 => ?_, fun c1 => h2 c1⟩
    obtain ⟨k1, k2⟩ := h3 c1
    exact ⟨r1, fun c2 => ⟨r2, r3, by omega, fun c3 => ⟨h1, (k2 ⟨c2, c3⟩).1, (k2 ⟨c2, c3⟩).2⟩, fun c3 => k1 fun q => c3 q.2⟩, fun c2 => k1 fun q => c2 q.1⟩
  · exact hS.elim
def js_X13_store : jx_Sp := fun as g M Po => match as with
  | [(73, _, y), (0, _, s), (0, _, x), (0, _, dx), (0, _, z), (0, _, dz)] => (0 ≤ M y 9 ∧ M y 9 ≤ 16) ∧ (jx_r s ∧ jx_r x ∧ jx_r dx ∧ jx_r z ∧ jx_r dz) ∧
      (¬ ((0 ≤ dx ∧ dx ≤ 4) ∧ (0 ≤ dz ∧ dz ≤ 4)) → Po (0, 0, -9) g (mu_no M y (-9))) ∧
      ((0 ≤ dx ∧ dx ≤ 4) ∧ (0 ≤ dz ∧ dz ≤ 4) → (¬ ((0 ≤ s ∧ s ≤ 7) ∧ mm_okop (M y 9) x dx ∧ mm_okop (M y 9) z dz) → Po (0, 0, -3) g (mu_no M y (-3))) ∧
        ((0 ≤ s ∧ s ≤ 7) ∧ mm_okop (M y 9) x dx ∧ mm_okop (M y 9) z dz → (M y 9 = 16 → Po (0, 0, -10) g (mu_no M y (-10))) ∧ (M y 9 ≠ 16 → Po (0, 0, M y 9) g (mu_adds M y (M y 9) 5 s x dx z dz))))
  | _ => False
def cs_X13_store : jx_Cs := [(412, 3, 0, 0, js_X13_isIn), (448, 1, 0, 0, js_X13_areTurns), (372, 2, 0, 0, js_X13_no), (459, 3, 0, 0, js_X13_isBeyond), (429, 7, 0, 0, js_X13_adds)]
theorem hc_X13_store {D : jx_D} {l : Launch} : jx_CsOK D l "LoopLaneModel" 3 cs_X13_store := List.forall_mem_cons.mpr ⟨jc_X13_137 (jt_X13_isIn l) (fun as g M Po (h : js_X13_isIn as g M Po) => by unfold js_X13_isIn at h; split at h <;> first | exact h.elim | exact rfl) (by decide), List.forall_mem_cons.mpr ⟨jc_X13_149 (jt_X13_areTurns l) (fun as g M Po (h : js_X13_areTurns as g M Po) => by unfold js_X13_areTurns at h; split at h <;> first | exact h.elim | exact rfl) (by decide), List.forall_mem_cons.mpr ⟨jc_X13_124 (jt_X13_no l) (fun as g M Po (h : js_X13_no as g M Po) => by unfold js_X13_no at h; split at h <;> first | exact h.elim | exact ⟨_, _, _, rfl, rfl⟩) (by decide), List.forall_mem_cons.mpr ⟨jc_X13_153 (jt_X13_isBeyond l) (fun as g M Po (h : js_X13_isBeyond as g M Po) => by unfold js_X13_isBeyond at h; split at h <;> first | exact h.elim | exact ⟨_, _, _, rfl, rfl⟩) (by decide), List.forall_mem_cons.mpr ⟨jc_X13_143 (jt_X13_adds l) (fun as g M Po (h : js_X13_adds as g M Po) => by unfold js_X13_adds at h; split at h <;> first | exact h.elim | exact ⟨_, _, _, rfl, rfl⟩) (by decide), fun _ h => absurd h List.not_mem_nil⟩⟩⟩⟩⟩
set_option maxHeartbeats 4000000 in
theorem jt_X13_store (l : Launch) : jx_Ct l yX13_store (ws_ yX13_store cX13_store 6 (some .int)) 3 0 0 js_X13_store := by
  refine jx_Ct_c (rc := 0) (by decide) rfl (fun D as g M Po hS => ?_)
  unfold js_X13_store at hS
  split at hS
  · rename_i n1 y n2 s n3 x n4 dx n5 z n6 dz
    obtain ⟨h1, ⟨r1, r2, r3, r4, r5⟩, h2, h3⟩ := hS
    refine ⟨Nat.le_of_ble_eq_true rfl, ?_⟩
    refine jx_runL (o := jo_X13) (cs := cs_X13_store) (hf := jx_nh) jo_X13_ok hc_X13_store (jx_HK_nil rfl) (fun _ => false) 80 ?_
    simp only [jw, ju, jx_tg, Int.cast_ofNat_Int, Int.reduceAdd, Int.reduceToNat, Nat.reduceAdd, Nat.reduceMul, Nat.reduceBEq, Nat.reduceLeDiff, Int.reduceLE, Int.reduceLT, Int.reduceEq, Int.reduceNeg, Int.reduceSub, Int.reduceMul, not_false_eq_true, true_and, and_true, and_self, Bool.or_false, Bool.false_or, Bool.or_true, Bool.true_or, List.length_nil, List.length_cons, Nat.zero_le, or_true, true_or, Nat.le_refl, ↓reduceIte, Nat.reduceEqDiff, forall_const, false_and, and_false, false_implies, implies_true, not_true_eq_false, or_false, false_or, ne_eq, jd_X13_store, jf_X13, js_X13_adds, js_X13_areTurns, js_X13_isBeyond, js_X13_isIn, js_X13_no, cs_X13_store, jx_ck_c]
    refine ⟨r3, fun c1 => ⟨r5, fun c2 => ?_, fun c2 => h2 fun q => c2 q.2⟩, fun c1 => h2 fun q => c1 q.1⟩
    obtain ⟨k1, k2⟩ := h3 ⟨c1, c2⟩
    exact ⟨r1, fun c3 => ⟨r2, r3, by omega, fun c4 => ⟨r4, r5, by omega, fun c5 => ⟨h1, (k2 ⟨c3, c4, c5⟩).1, (k2 ⟨c3, c4, c5⟩).2⟩, fun c5 => k1 fun q => c5 q.2.2⟩, fun c4 => k1 fun q => c4 q.2.1⟩, fun c3 => k1 fun q => c3 q.1⟩
  · exact hS.elim
