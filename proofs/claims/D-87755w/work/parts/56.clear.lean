/-! Result.clear -/
set_option maxRecDepth 100000
/-- the places from k up to n of an array are set to 0 -/
def mu_zero (M : jx_M) (a k n : Int) : jx_M := fun z i => if z = a ∧ k ≤ i ∧ i < n then 0 else M z i
theorem mu_zero_u {M : jx_M} {a k n : Int} (h : k < n) : mu_zero (jx_u M a k 0) a (k + 1) n = mu_zero M a k n := by
  funext z i
  unfold mu_zero jx_u
  by_cases c : z = a
  · by_cases c2 : i = k
    · rw [if_neg (by omega), if_pos ⟨c, c2⟩, if_pos ⟨c, by omega, by omega⟩]
    · by_cases c3 : k ≤ i ∧ i < n
      · rw [if_pos ⟨c, by omega, by omega⟩, if_pos ⟨c, c3⟩]
      · rw [if_neg (by omega), if_neg (fun w => c2 w.2), if_neg (by omega)]
  · rw [if_neg (fun w => c w.1), if_neg (fun w => c w.1), if_neg (fun w => c w.1)]
theorem mu_zero_n {M : jx_M} {a k n : Int} (h : n ≤ k) : mu_zero M a k n = M := by
  funext z i
  unfold mu_zero
  rw [if_neg (by omega)]
def mu_clear (M : jx_M) (r : Int) : jx_M := mu_zero (jx_u (jx_u (jx_u (jx_u (jx_u (jx_u (jx_u M r 0 0) r 1 (-1)) r 2 (-1)) r 3 0) r 4 0) r 5 0) r 6 0) (r + 1) 0 16
def js_X3_clear : jx_Sp := fun as g M Po => match as with
  | [(63, _, r)] => Po (3, 0, 0) g (mu_clear M r)
  | _ => False
set_option maxHeartbeats 4000000 in
theorem jt_X3_clear (l : Launch) : jx_Ct l yX3_clear (ws_ yX3_clear cX3_clear 2 none) 0 0 0 js_X3_clear := by
  refine jx_Ct_c (rc := 3) (by decide) rfl (fun D as g M Po hS => ?_)
  unfold js_X3_clear at hS
  split at hS
  · rename_i n1 r
    refine ⟨Nat.le_of_ble_eq_true rfl, ?_⟩
    have loop : ∀ (t : Nat) (k : Int) (M : jx_M), 16 - k ≤ t → 0 ≤ k → k ≤ 16 → Po (3, 0, 0) g (mu_zero M (r + 1) k 16) → jx_V D l (yX3_clear.cls, cX3_clear, 2, 3, [], 0, 0, 0, yX3_clear.name) Po 37 [(63, n1, r), (0, 0, k)] [] (0, 0) g (M) := by
      intro t
      induction t with
      | zero =>
        intro k M c0 c1 c2 hP
        refine jx_runL (o := jo_X3) (cs := []) (hf := jx_nh) jo_X3_ok jx_cs0 (jx_HK_nil rfl) (fun p => p == 37) 20 ?_
        simp only [jw, ju, jx_tg, Int.cast_ofNat_Int, Int.reduceAdd, Int.reduceToNat, Nat.reduceAdd, Nat.reduceMul, Nat.reduceBEq, Nat.reduceLeDiff, Int.reduceLE, Int.reduceLT, Int.reduceEq, Int.reduceNeg, Int.reduceSub, Int.reduceMul, not_false_eq_true, true_and, and_true, and_self, Bool.or_false, Bool.false_or, Bool.or_true, Bool.true_or, List.length_nil, List.length_cons, Nat.zero_le, or_true, true_or, Nat.le_refl, ↓reduceIte, Nat.reduceEqDiff, forall_const, false_and, and_false, false_implies, implies_true, not_true_eq_false, or_false, false_or, ne_eq, jd_X3_clear, jf_X3]
        refine ⟨⟨by omega, by omega⟩, fun c => ?_, fun c => by omega⟩
        rw [mu_zero_n (by omega)] at hP
        exact hP
      | succ t ih =>
        intro k M c0 c1 c2 hP
        refine jx_runL (o := jo_X3) (cs := []) (hf := jx_nh) jo_X3_ok jx_cs0 (jx_HK_nil rfl) (fun p => p == 37) 20 ?_
        simp only [jw, ju, jx_tg, Int.cast_ofNat_Int, Int.reduceAdd, Int.reduceToNat, Nat.reduceAdd, Nat.reduceMul, Nat.reduceBEq, Nat.reduceLeDiff, Int.reduceLE, Int.reduceLT, Int.reduceEq, Int.reduceNeg, Int.reduceSub, Int.reduceMul, not_false_eq_true, true_and, and_true, and_self, Bool.or_false, Bool.false_or, Bool.or_true, Bool.true_or, List.length_nil, List.length_cons, Nat.zero_le, or_true, true_or, Nat.le_refl, ↓reduceIte, Nat.reduceEqDiff, forall_const, false_and, and_false, false_implies, implies_true, not_true_eq_false, or_false, false_or, ne_eq, jd_X3_clear, jf_X3]
        refine ⟨⟨by omega, by omega⟩, fun c => ?_, fun c => ⟨⟨c1, by omega⟩, ih (k + 1) _ (by omega) (by omega) (by omega) ?_⟩⟩
        · rw [mu_zero_n (by omega)] at hP
          exact hP
        · rw [mu_zero_u (by omega)]
          exact hP
    refine jx_runL (o := jo_X3) (cs := []) (hf := jx_nh) jo_X3_ok jx_cs0 (jx_HK_nil rfl) (fun p => p == 37) 60 ?_
    simp only [jw, ju, jx_tg, Int.cast_ofNat_Int, Int.reduceAdd, Int.reduceToNat, Nat.reduceAdd, Nat.reduceMul, Nat.reduceBEq, Nat.reduceLeDiff, Int.reduceLE, Int.reduceLT, Int.reduceEq, Int.reduceNeg, Int.reduceSub, Int.reduceMul, not_false_eq_true, true_and, and_true, and_self, Bool.or_false, Bool.false_or, Bool.or_true, Bool.true_or, List.length_nil, List.length_cons, Nat.zero_le, or_true, true_or, Nat.le_refl, ↓reduceIte, Nat.reduceEqDiff, forall_const, false_and, and_false, false_implies, implies_true, not_true_eq_false, or_false, false_or, ne_eq, jd_X3_clear, jf_X3]
    exact loop 16 0 _ (by omega) (by omega) (by omega) hS
  · exact hS.elim
