/-! the reference, 2: leaves -/
set_option maxRecDepth 100000
def js_X13_isBeyond : jx_Sp := fun as g M Po => match as with
  | [(73, _, y), (0, _, x), (0, _, d)] => jx_r x ∧ jx_r d ∧ jx_r (M y 9) ∧ ((0 ≤ x ∧ x ≤ 15) ∧ (d = 0 → x < M y 9) → Po (0, 0, 0) g M) ∧ (¬ ((0 ≤ x ∧ x ≤ 15) ∧ (d = 0 → x < M y 9)) → Po (0, 0, 1) g M)
  | _ => False
def cs_X13_isBeyond : jx_Cs := [(412, 3, 0, 0, js_X13_isIn)]
theorem hc_X13_isBeyond {D : jx_D} {l : Launch} : jx_CsOK D l "LoopLaneModel" 1 cs_X13_isBeyond := List.forall_mem_cons.mpr ⟨jc_X13_137 (jt_X13_isIn l) (fun as g M Po (h : js_X13_isIn as g M Po) => by unfold js_X13_isIn at h; split at h <;> first | exact h.elim | exact rfl) (by decide), fun _ h => absurd h List.not_mem_nil⟩
set_option maxHeartbeats 4000000 in
theorem jt_X13_isBeyond (l : Launch) : jx_Ct l yX13_isBeyond (ws_ yX13_isBeyond cX13_isBeyond 3 (some .boolean)) 1 0 0 js_X13_isBeyond := by
  refine jx_Ct_c (rc := 4) (by decide) rfl (fun D as g M Po hS => ?_)
  unfold js_X13_isBeyond at hS
  split at hS
  · rename_i n1 y n2 x n3 d
    obtain ⟨h1, h2, h3, h4, h5⟩ := hS
    refine ⟨Nat.le_of_ble_eq_true rfl, ?_⟩
    refine jx_runL (o := jo_X13) (cs := cs_X13_isBeyond) (hf := jx_nh) jo_X13_ok hc_X13_isBeyond (jx_HK_nil rfl) (fun _ => false) 40 ?_
    simp only [jw, ju, jx_tg, Int.cast_ofNat_Int, Int.reduceAdd, Int.reduceToNat, Nat.reduceAdd, Nat.reduceMul, Nat.reduceBEq, Nat.reduceLeDiff, Int.reduceLE, Int.reduceLT, Int.reduceEq, Int.reduceNeg, Int.reduceSub, Int.reduceMul, not_false_eq_true, true_and, and_true, and_self, Bool.or_false, Bool.false_or, Bool.or_true, Bool.true_or, List.length_nil, List.length_cons, Nat.zero_le, or_true, true_or, Nat.le_refl, ↓reduceIte, Nat.reduceEqDiff, forall_const, false_and, and_false, false_implies, implies_true, not_true_eq_false, or_false, false_or, ne_eq, jd_X13_isBeyond, jf_X13, js_X13_isIn, cs_X13_isBeyond, jx_ck_c]
    refine ⟨h1, fun c => ⟨h2, fun c2 => h4 ⟨c, fun z => absurd z c2⟩, fun c2 => ⟨⟨h1, h3⟩, fun c3 => h4 ⟨c, fun _ => c3⟩, fun c3 => h5 fun z => c3 (z.2 (by omega))⟩⟩, fun c => h5 fun z => c z.1⟩
  · exact hS.elim
def js_X13_operand : jx_Sp := fun as g M Po => match as with
  | [(73, _, y), (0, _, a), (0, _, k), (0, _, x), (0, _, d)] => (0 ≤ 3 * a + k ∧ 3 * a + k < 48) ∧ Po (3, 0, 0) g (jx_u (jx_u M (y + 6) (3 * a + k) x) (y + 7) (3 * a + k) d)
  | _ => False
set_option maxHeartbeats 4000000 in
theorem jt_X13_operand (l : Launch) : jx_Ct l yX13_operand (ws_ yX13_operand cX13_operand 5 none) 0 0 0 js_X13_operand := by
  refine jx_Ct_c (rc := 3) (by decide) rfl (fun D as g M Po hS => ?_)
  unfold js_X13_operand at hS
  split at hS
  · rename_i n1 y n2 a n3 k n4 x n5 d
    refine ⟨Nat.le_of_ble_eq_true rfl, ?_⟩
    refine jx_runL (o := jo_X13) (cs := []) (hf := jx_nh) jo_X13_ok jx_cs0 (jx_HK_nil rfl) (fun _ => false) 40 ?_
    simp only [jw, ju, jx_tg, Int.cast_ofNat_Int, Int.reduceAdd, Int.reduceToNat, Nat.reduceAdd, Nat.reduceMul, Nat.reduceBEq, Nat.reduceLeDiff, Int.reduceLE, Int.reduceLT, Int.reduceEq, Int.reduceNeg, Int.reduceSub, Int.reduceMul, not_false_eq_true, true_and, and_true, and_self, Bool.or_false, Bool.false_or, Bool.or_true, Bool.true_or, List.length_nil, List.length_cons, Nat.zero_le, or_true, true_or, Nat.le_refl, ↓reduceIte, Nat.reduceEqDiff, forall_const, false_and, and_false, false_implies, implies_true, not_true_eq_false, or_false, false_or, ne_eq, jd_X13_operand, jf_X13]
    exact ⟨hS.1, hS.1, hS.2⟩
  · exact hS.elim
/-- an edge is entered -/
def mu_enter (M : jx_M) (y a b t d : Int) : jx_M := jx_u (jx_u (jx_u (jx_u (jx_u M (y + 15) (M y 20) a) (y + 16) (M y 20) b) (y + 17) (M y 20) t) (y + 18) (M y 20) d) y 20 (M y 20 + 1)
def js_X13_enter : jx_Sp := fun as g M Po => match as with
  | [(73, _, y), (0, _, a), (0, _, b), (0, _, t), (0, _, d)] => (0 ≤ M y 20 ∧ M y 20 < 704) ∧ Po (3, 0, 0) g (mu_enter M y a b t d)
  | _ => False
set_option maxHeartbeats 4000000 in
theorem jt_X13_enter (l : Launch) : jx_Ct l yX13_enter (ws_ yX13_enter cX13_enter 5 none) 0 0 0 js_X13_enter := by
  refine jx_Ct_c (rc := 3) (by decide) rfl (fun D as g M Po hS => ?_)
  unfold js_X13_enter at hS
  split at hS
  · rename_i n1 y n2 a n3 b n4 t n5 d
    refine ⟨Nat.le_of_ble_eq_true rfl, ?_⟩
    refine jx_runL (o := jo_X13) (cs := []) (hf := jx_nh) jo_X13_ok jx_cs0 (jx_HK_nil rfl) (fun _ => false) 40 ?_
    simp only [jw, ju, jx_tg, Int.cast_ofNat_Int, Int.reduceAdd, Int.reduceToNat, Nat.reduceAdd, Nat.reduceMul, Nat.reduceBEq, Nat.reduceLeDiff, Int.reduceLE, Int.reduceLT, Int.reduceEq, Int.reduceNeg, Int.reduceSub, Int.reduceMul, not_false_eq_true, true_and, and_true, and_self, Bool.or_false, Bool.false_or, Bool.or_true, Bool.true_or, List.length_nil, List.length_cons, Nat.zero_le, or_true, true_or, Nat.le_refl, ↓reduceIte, Nat.reduceEqDiff, forall_const, false_and, and_false, false_implies, implies_true, not_true_eq_false, or_false, false_or, ne_eq, jd_X13_enter, jf_X13]
    exact ⟨hS.1, hS.1, hS.1, hS.1, hS.2⟩
  · exact hS.elim
def js_X13_isOfRow : jx_Sp := fun as g M Po => match as with
  | [(73, _, y), (0, _, a)] => (0 ≤ a ∧ a < 16) ∧ jx_r (M (y + 1) a) ∧ (M (y + 1) a = 4 ∨ M (y + 1) a = 5 → Po (0, 0, 1) g M) ∧ (¬ (M (y + 1) a = 4 ∨ M (y + 1) a = 5) → Po (0, 0, 0) g M)
  | _ => False
set_option maxHeartbeats 4000000 in
theorem jt_X13_isOfRow (l : Launch) : jx_Ct l yX13_isOfRow (ws_ yX13_isOfRow cX13_isOfRow 2 (some .boolean)) 0 0 0 js_X13_isOfRow := by
  refine jx_Ct_c (rc := 4) (by decide) rfl (fun D as g M Po hS => ?_)
  unfold js_X13_isOfRow at hS
  split at hS
  · rename_i n1 y n2 a
    obtain ⟨h1, h2, h3, h4⟩ := hS
    refine ⟨Nat.le_of_ble_eq_true rfl, ?_⟩
    refine jx_runL (o := jo_X13) (cs := []) (hf := jx_nh) jo_X13_ok jx_cs0 (jx_HK_nil rfl) (fun _ => false) 40 ?_
    simp only [jw, ju, jx_tg, Int.cast_ofNat_Int, Int.reduceAdd, Int.reduceToNat, Nat.reduceAdd, Nat.reduceMul, Nat.reduceBEq, Nat.reduceLeDiff, Int.reduceLE, Int.reduceLT, Int.reduceEq, Int.reduceNeg, Int.reduceSub, Int.reduceMul, not_false_eq_true, true_and, and_true, and_self, Bool.or_false, Bool.false_or, Bool.or_true, Bool.true_or, List.length_nil, List.length_cons, Nat.zero_le, or_true, true_or, Nat.le_refl, ↓reduceIte, Nat.reduceEqDiff, forall_const, false_and, and_false, false_implies, implies_true, not_true_eq_false, or_false, false_or, ne_eq, jd_X13_isOfRow, jf_X13]
    exact ⟨h1, h2, fun c => h3 (Or.inl c), fun c => ⟨h1, h2, fun c2 => h4 (by omega), fun c2 => h3 (by omega)⟩⟩
  · exact hS.elim
def js_X13_isSlot : jx_Sp := fun as g M Po => match as with
  | [(0, _, s)] => jx_r s ∧ (0 ≤ s ∧ s < 8 → Po (0, 0, 1) g M) ∧ (¬ (0 ≤ s ∧ s < 8) → Po (0, 0, 0) g M)
  | _ => False
set_option maxHeartbeats 4000000 in
theorem jt_X13_isSlot (l : Launch) : jx_Ct l yX13_isSlot (ws_ yX13_isSlot cX13_isSlot 1 (some .boolean)) 0 0 0 js_X13_isSlot := by
  refine jx_Ct_c (rc := 4) (by decide) rfl (fun D as g M Po hS => ?_)
  unfold js_X13_isSlot at hS
  split at hS
  · rename_i n1 s
    obtain ⟨h1, h2, h3⟩ := hS
    refine ⟨Nat.le_of_ble_eq_true rfl, ?_⟩
    refine jx_runL (o := jo_X13) (cs := []) (hf := jx_nh) jo_X13_ok jx_cs0 (jx_HK_nil rfl) (fun _ => false) 40 ?_
    simp only [jw, ju, jx_tg, Int.cast_ofNat_Int, Int.reduceAdd, Int.reduceToNat, Nat.reduceAdd, Nat.reduceMul, Nat.reduceBEq, Nat.reduceLeDiff, Int.reduceLE, Int.reduceLT, Int.reduceEq, Int.reduceNeg, Int.reduceSub, Int.reduceMul, not_false_eq_true, true_and, and_true, and_self, Bool.or_false, Bool.false_or, Bool.or_true, Bool.true_or, List.length_nil, List.length_cons, Nat.zero_le, or_true, true_or, Nat.le_refl, ↓reduceIte, Nat.reduceEqDiff, forall_const, false_and, and_false, false_implies, implies_true, not_true_eq_false, or_false, false_or, ne_eq, jd_X13_isSlot, jf_X13]
    exact ⟨h1, fun c => h3 (by omega), fun c => ⟨h1, fun c2 => h3 (by omega), fun c2 => h2 (by omega)⟩⟩
  · exact hS.elim
/-- what a run left is forgotten -/
def mu_forget (M : jx_M) (y : Int) : jx_M := jx_u (jx_u (jx_u (jx_u (jx_u (jx_u (jx_u M y 38 0) y 39 (-1)) y 40 (-1)) y 41 0) y 42 0) y 43 0) y 44 0
def js_X13_forget : jx_Sp := fun as g M Po => match as with
  | [(73, _, y)] => Po (3, 0, 0) g (mu_forget M y)
  | _ => False
set_option maxHeartbeats 4000000 in
theorem jt_X13_forget (l : Launch) : jx_Ct l yX13_forget (ws_ yX13_forget cX13_forget 1 none) 0 0 0 js_X13_forget := by
  refine jx_Ct_c (rc := 3) (by decide) rfl (fun D as g M Po hS => ?_)
  unfold js_X13_forget at hS
  split at hS
  · rename_i n1 y
    refine ⟨Nat.le_of_ble_eq_true rfl, ?_⟩
    refine jx_runL (o := jo_X13) (cs := []) (hf := jx_nh) jo_X13_ok jx_cs0 (jx_HK_nil rfl) (fun _ => false) 40 ?_
    simp only [jw, ju, jx_tg, Int.cast_ofNat_Int, Int.reduceAdd, Int.reduceToNat, Nat.reduceAdd, Nat.reduceMul, Nat.reduceBEq, Nat.reduceLeDiff, Int.reduceLE, Int.reduceLT, Int.reduceEq, Int.reduceNeg, Int.reduceSub, Int.reduceMul, not_false_eq_true, true_and, and_true, and_self, Bool.or_false, Bool.false_or, Bool.or_true, Bool.true_or, List.length_nil, List.length_cons, Nat.zero_le, or_true, true_or, Nat.le_refl, ↓reduceIte, Nat.reduceEqDiff, forall_const, false_and, and_false, false_implies, implies_true, not_true_eq_false, or_false, false_or, ne_eq, jd_X13_forget, jf_X13]
    exact hS
  · exact hS.elim
