/-! the reference, 4: the body -/
set_option maxRecDepth 100000
def mu_no (M : jx_M) (y w : Int) : jx_M := jx_u (jx_u M (y + 23) (-w) (M (y + 23) (-w) + 1)) y 26 w
def mu_op (M : jx_M) (y i x d : Int) : jx_M := jx_u (jx_u M (y + 6) i x) (y + 7) i d
/-- an act is added -/
def mu_adds (M : jx_M) (y a w s x dx z dz : Int) : jx_M :=
  mu_changes (mu_op (mu_op (mu_op (jx_u (jx_u (jx_u (jx_u (jx_u (jx_u (jx_u (jx_u M y 9 (a + 1)) (y + 1) a w) (y + 2) a 1) (y + 3) a 0) (y + 4) a 1) (y + 5) a s) (y + 8) a 0) (y + 9) a 0) y (3 * a + 0) x dx) y (3 * a + 1) z dz) y (3 * a + 2) (-1) (-1)) y
def js_X13_adds : jx_Sp := fun as g M Po => match as with
  | [(73, _, y), (0, _, w), (0, _, s), (0, _, x), (0, _, dx), (0, _, z), (0, _, dz)] => (0 ≤ M y 9 ∧ M y 9 ≤ 16) ∧ (M y 9 = 16 → Po (0, 0, -10) g (mu_no M y (-10))) ∧ (M y 9 ≠ 16 → Po (0, 0, M y 9) g (mu_adds M y (M y 9) w s x dx z dz))
  | _ => False
def cs_X13_adds : jx_Cs := [(372, 2, 0, 0, js_X13_no), (384, 5, 0, 0, js_X13_operand), (396, 1, 0, 0, js_X13_changes)]
theorem hc_X13_adds {D : jx_D} {l : Launch} : jx_CsOK D l "LoopLaneModel" 2 cs_X13_adds := List.forall_mem_cons.mpr ⟨jc_X13_124 (jt_X13_no l) (fun as g M Po (h : js_X13_no as g M Po) => by unfold js_X13_no at h; split at h <;> first | exact h.elim | exact ⟨_, _, _, rfl, rfl⟩) (by decide), List.forall_mem_cons.mpr ⟨jc_X13_128 (jt_X13_operand l) (fun as g M Po (h : js_X13_operand as g M Po) => by unfold js_X13_operand at h; split at h <;> first | exact h.elim | exact ⟨_, _, _, rfl, rfl⟩) (by decide), List.forall_mem_cons.mpr ⟨jc_X13_132 (jt_X13_changes l) (fun as g M Po (h : js_X13_changes as g M Po) => by unfold js_X13_changes at h; split at h <;> first | exact h.elim | exact ⟨_, _, _, rfl, rfl⟩) (by decide), fun _ h => absurd h List.not_mem_nil⟩⟩⟩
set_option maxHeartbeats 4000000 in
theorem jt_X13_adds (l : Launch) : jx_Ct l yX13_adds (ws_ yX13_adds cX13_adds 8 (some .int)) 2 0 0 js_X13_adds := by
  refine jx_Ct_c (rc := 0) (by decide) rfl (fun D as g M Po hS => ?_)
  unfold js_X13_adds at hS
  split at hS
  · rename_i n1 y n2 w n3 s n4 x n5 dx n6 z n7 dz
    obtain ⟨h1, h2, h3⟩ := hS
    refine ⟨Nat.le_of_ble_eq_true rfl, ?_⟩
    refine jx_runL (o := jo_X13) (cs := cs_X13_adds) (hf := jx_nh) jo_X13_ok hc_X13_adds (jx_HK_nil rfl) (fun _ => false) 120 ?_
    simp only [jw, ju, jx_tg, Int.cast_ofNat_Int, Int.reduceAdd, Int.reduceToNat, Nat.reduceAdd, Nat.reduceMul, Nat.reduceBEq, Nat.reduceLeDiff, Int.reduceLE, Int.reduceLT, Int.reduceEq, Int.reduceNeg, Int.reduceSub, Int.reduceMul, not_false_eq_true, true_and, and_true, and_self, Bool.or_false, Bool.false_or, Bool.or_true, Bool.true_or, List.length_nil, List.length_cons, Nat.zero_le, or_true, true_or, Nat.le_refl, ↓reduceIte, Nat.reduceEqDiff, forall_const, false_and, and_false, false_implies, implies_true, not_true_eq_false, or_false, false_or, ne_eq, jd_X13_adds, jf_X13, js_X13_changes, js_X13_no, js_X13_operand, cs_X13_adds, jx_ck_c]
    refine ⟨by omega, fun c => ⟨by omega, by omega, by omega, by omega, by omega, by omega, by omega, by omega, by omega, by omega, h3 c⟩, fun c => h2 (by omega)⟩
  · exact hS.elim
/-- put -/
def js_X13_put : jx_Sp := fun as g M Po => match as with
  | [(73, _, y), (1, _, v)] => (0 ≤ M y 9 ∧ M y 9 ≤ 16) ∧ (M y 9 = 16 → Po (0, 0, -10) g (mu_no M y (-10))) ∧ (M y 9 ≠ 16 → Po (0, 0, M y 9) g (jx_u (mu_adds M y (M y 9) 0 (-1) (-1) (-1) (-1) (-1)) (y + 9) (M y 9) v))
  | _ => False
def cs_X13_put : jx_Cs := [(429, 7, 0, 0, js_X13_adds)]
theorem hc_X13_put {D : jx_D} {l : Launch} : jx_CsOK D l "LoopLaneModel" 3 cs_X13_put := List.forall_mem_cons.mpr ⟨jc_X13_143 (jt_X13_adds l) (fun as g M Po (h : js_X13_adds as g M Po) => by unfold js_X13_adds at h; split at h <;> first | exact h.elim | exact ⟨_, _, _, rfl, rfl⟩) (by decide), fun _ h => absurd h List.not_mem_nil⟩
set_option maxHeartbeats 4000000 in
theorem jt_X13_put (l : Launch) : jx_Ct l yX13_put (ws_ yX13_put cX13_put 4 (some .int)) 3 0 0 js_X13_put := by
  refine jx_Ct_c (rc := 0) (by decide) rfl (fun D as g M Po hS => ?_)
  unfold js_X13_put at hS
  split at hS
  · rename_i n1 y n2 v
    obtain ⟨h1, h2, h3⟩ := hS
    refine ⟨Nat.le_of_ble_eq_true rfl, ?_⟩
    refine jx_runL (o := jo_X13) (cs := cs_X13_put) (hf := jx_nh) jo_X13_ok hc_X13_put (jx_HK_nil rfl) (fun _ => false) 60 ?_
    simp only [jw, ju, jx_tg, Int.cast_ofNat_Int, Int.reduceAdd, Int.reduceToNat, Nat.reduceAdd, Nat.reduceMul, Nat.reduceBEq, Nat.reduceLeDiff, Int.reduceLE, Int.reduceLT, Int.reduceEq, Int.reduceNeg, Int.reduceSub, Int.reduceMul, not_false_eq_true, true_and, and_true, and_self, Bool.or_false, Bool.false_or, Bool.or_true, Bool.true_or, List.length_nil, List.length_cons, Nat.zero_le, or_true, true_or, Nat.le_refl, ↓reduceIte, Nat.reduceEqDiff, forall_const, false_and, and_false, false_implies, implies_true, not_true_eq_false, or_false, false_or, ne_eq, jd_X13_put, jf_X13, js_X13_adds, cs_X13_put, jx_ck_c]
    refine ⟨h1, fun c => h2 c, fun c => ⟨by omega, fun c2 => by omega, fun c2 => ⟨by omega, h3 c⟩⟩⟩
  · exact hS.elim
