/-! LoopLane: isWhole, isTaken, mostStages, hasUnits, roundedUp, namesOf, filledAt -/
set_option maxRecDepth 100000
section RA
variable {x a : Int} {S : jx_M} {g : jx_S} {M : jx_M}
theorem rA_lag (h : rA x S g M a) : M (M (x + 13) a) 0 = S 2 a := h.2.2.2.1
theorem rA_unit (h : rA x S g M a) : M (M (x + 13) a) 1 = S 3 a := h.2.2.2.2.1
theorem rA_pat (h : rA x S g M a) : M (M (x + 13) a) 2 = S 4 a := h.2.2.2.2.2.1
theorem rA_first (h : rA x S g M a) : M (M (x + 13) a) 3 = S 8 a := h.2.2.2.2.2.2.1
theorem rA_many (h : rA x S g M a) : M (M (x + 13) a) 4 = mm_nop (S 1 a) := h.2.2.2.2.2.2.2.1
theorem rA_of {i : Int} (h : rA x S g M a) (i0 : 0 ≤ i) (i1 : i < mm_nop (S 1 a)) : M (M (x + 13) a + 1) i = S 6 (3 * a + i) := (h.2.2.2.2.2.2.2.2.1 i i0 i1).1
theorem rA_back {i : Int} (h : rA x S g M a) (i0 : 0 ≤ i) (i1 : i < mm_nop (S 1 a)) : M (M (x + 13) a + 2) i = S 7 (3 * a + i) := (h.2.2.2.2.2.2.2.2.1 i i0 i1).2
end RA
theorem mm_nop_3 (s : Int) : 0 ≤ mm_nop s ∧ mm_nop s ≤ 3 := by
  unfold mm_nop
  split
  · omega
  · split
    · omega
    · split <;> omega
def js_X0_isWhole : jx_Sp := fun as g M Po => match as with
  | [(60, _, x)] => ∃ S, (0 ≤ x ∧ rBd x S g M ∧ mB S) ∧ (mm_whole S → Po (0, 0, 1) g M) ∧ (¬ mm_whole S → Po (0, 0, 0) g M)
  | _ => False
set_option maxHeartbeats 4000000 in
theorem jt_X0_isWhole (l : Launch) : jx_Ct l yX0_isWhole (ws_ yX0_isWhole cX0_isWhole 3 (some .boolean)) 0 0 0 js_X0_isWhole := by
  refine jx_Ct_c (rc := 4) (by decide) rfl (fun D as g M Po hS => ?_)
  unfold js_X0_isWhole at hS
  split at hS
  · rename_i n1 x
    obtain ⟨S, ⟨hx, hR, hB⟩, hY, hN⟩ := hS
    have h9 := hB.1
    refine ⟨Nat.le_of_ble_eq_true rfl, ?_⟩
    have outer : ∀ (f a : Nat) (P2 : jx_A), (a : Int) + f = S 0 9 → (∀ k, 0 ≤ k → k < 3 * (a : Int) → S 6 k < S 0 9) → jx_V D l (yX0_isWhole.cls, cX0_isWhole, 3, 4, [], 0, 0, 0, yX0_isWhole.name) Po 2 [(60, n1, x), (0, 0, (a : Int)), P2] [] (0, 0) g (M) := by
      intro f
      induction f with
      | zero =>
        intro a P2 ha k1
        refine jx_runL (o := jo_X0) (cs := []) (hf := jx_nh) jo_X0_ok jx_cs0 (jx_HK_nil rfl) (fun _ => false) 20 ?_
        simp only [jw, ju, jx_tg, Int.cast_ofNat_Int, Int.reduceAdd, Int.reduceToNat, Nat.reduceAdd, Nat.reduceMul, Nat.reduceBEq, Nat.reduceLeDiff, Int.reduceLE, Int.reduceLT, Int.reduceEq, Int.reduceNeg, Int.reduceSub, Int.reduceMul, not_false_eq_true, true_and, and_true, and_self, Bool.or_false, Bool.false_or, Bool.or_true, Bool.true_or, List.length_nil, List.length_cons, Nat.zero_le, or_true, true_or, Nat.le_refl, ↓reduceIte, Nat.reduceEqDiff, forall_const, false_and, and_false, false_implies, implies_true, not_true_eq_false, or_false, false_or, ne_eq, jd_X0_isWhole, jf_X0, hR.1]
        exact ⟨by omega, fun c => hY (fun k a0 a1 => k1 k a0 (by omega)), fun c => by omega⟩
      | succ f ih =>
        intro a P2 ha k1
        have hA := hR.2.2.1 a (by omega) (by omega)
        have k3 := rA_k3 hA hx (by omega)
        have hn := mm_nop_3 (S 1 a)
        have inner : ∀ (q i : Nat), (i : Int) + q = mm_nop (S 1 a) → (∀ k, 0 ≤ k → k < 3 * (a : Int) + i → S 6 k < S 0 9) → jx_V D l (yX0_isWhole.cls, cX0_isWhole, 3, 4, [], 0, 0, 0, yX0_isWhole.name) Po 12 [(60, n1, x), (0, 0, (a : Int)), (0, 0, (i : Int))] [] (0, 0) g (M) := by
          intro q
          induction q with
          | zero =>
            intro i hi k2
            refine jx_runL (o := jo_X0) (cs := []) (hf := jx_nh) jo_X0_ok jx_cs0 (jx_HK_nil rfl) (fun p => p == 2) 20 ?_
            simp only [jw, ju, jx_tg, Int.cast_ofNat_Int, Int.reduceAdd, Int.reduceToNat, Nat.reduceAdd, Nat.reduceMul, Nat.reduceBEq, Nat.reduceLeDiff, Int.reduceLE, Int.reduceLT, Int.reduceEq, Int.reduceNeg, Int.reduceSub, Int.reduceMul, not_false_eq_true, true_and, and_true, and_self, Bool.or_false, Bool.false_or, Bool.or_true, Bool.true_or, List.length_nil, List.length_cons, Nat.zero_le, or_true, true_or, Nat.le_refl, ↓reduceIte, Nat.reduceEqDiff, forall_const, false_and, and_false, false_implies, implies_true, not_true_eq_false, or_false, false_or, ne_eq, jd_X0_isWhole, jf_X0, hR.1, rA_many hA]
            refine ⟨by omega, k3, by omega, fun c => ?_, fun c => by omega⟩
            have := ih (a + 1) (0, 0, (i : Int)) (by omega) (fun k b0 b1 => ?_)
            · rw [show (((a + 1 : Nat) : Int)) = (a : Int) + 1 by omega] at this
              exact this
            · by_cases c2 : k < 3 * (a : Int) + i
              · exact k2 k b0 c2
              · have := (hB.2.2.2.1 a (k - 3 * a) (by omega) (by omega) (by omega) (by omega)).2 (by omega)
                rw [show 3 * (a : Int) + (k - 3 * a) = k by omega] at this
                omega
          | succ q iq =>
            intro i hi k2
            have hof := rA_of hA (show 0 ≤ (i : Int) by omega) (by omega)
            have bo := mB_op hB (k := 3 * a + i) (by omega) (by omega)
            refine jx_runL (o := jo_X0) (cs := []) (hf := jx_nh) jo_X0_ok jx_cs0 (jx_HK_nil rfl) (fun p => p == 2 || p == 12) 30 ?_
            simp only [jw, ju, jx_tg, Int.cast_ofNat_Int, Int.reduceAdd, Int.reduceToNat, Nat.reduceAdd, Nat.reduceMul, Nat.reduceBEq, Nat.reduceLeDiff, Int.reduceLE, Int.reduceLT, Int.reduceEq, Int.reduceNeg, Int.reduceSub, Int.reduceMul, not_false_eq_true, true_and, and_true, and_self, Bool.or_false, Bool.false_or, Bool.or_true, Bool.true_or, List.length_nil, List.length_cons, Nat.zero_le, or_true, true_or, Nat.le_refl, ↓reduceIte, Nat.reduceEqDiff, forall_const, false_and, and_false, false_implies, implies_true, not_true_eq_false, or_false, false_or, ne_eq, jd_X0_isWhole, jf_X0, hR.1, rA_many hA, hof]
            refine ⟨by omega, k3, by omega, fun c => by omega, fun c => ⟨by omega, k3, by omega, by omega, fun c2 => ?_, fun c2 => hN (fun w => c2 (w _ (by omega) (by omega)))⟩⟩
            have := iq (i + 1) (by omega) (fun k b0 b1 => ?_)
            · rw [show (((i + 1 : Nat) : Int)) = (i : Int) + 1 by omega] at this
              exact this
            · by_cases c3 : k = 3 * (a : Int) + i
              · rw [c3]; exact c2
              · exact k2 k b0 (by omega)
        refine jx_runL (o := jo_X0) (cs := []) (hf := jx_nh) jo_X0_ok jx_cs0 (jx_HK_nil rfl) (fun p => p == 12) 20 ?_
        simp only [jw, ju, jx_tg, Int.cast_ofNat_Int, Int.reduceAdd, Int.reduceToNat, Nat.reduceAdd, Nat.reduceMul, Nat.reduceBEq, Nat.reduceLeDiff, Int.reduceLE, Int.reduceLT, Int.reduceEq, Int.reduceNeg, Int.reduceSub, Int.reduceMul, not_false_eq_true, true_and, and_true, and_self, Bool.or_false, Bool.false_or, Bool.or_true, Bool.true_or, List.length_nil, List.length_cons, Nat.zero_le, or_true, true_or, Nat.le_refl, ↓reduceIte, Nat.reduceEqDiff, forall_const, false_and, and_false, false_implies, implies_true, not_true_eq_false, or_false, false_or, ne_eq, jd_X0_isWhole, jf_X0, hR.1]
        exact ⟨by omega, fun c => by omega, fun c => inner (mm_nop (S 1 a)).toNat 0 (by omega) (fun k b0 b1 => k1 k b0 (by omega))⟩
    refine jx_runL (o := jo_X0) (cs := []) (hf := jx_nh) jo_X0_ok jx_cs0 (jx_HK_nil rfl) (fun p => p == 2) 20 ?_
    simp only [jw, ju, jx_tg, Int.cast_ofNat_Int, Int.reduceAdd, Int.reduceToNat, Nat.reduceAdd, Nat.reduceMul, Nat.reduceBEq, Nat.reduceLeDiff, Int.reduceLE, Int.reduceLT, Int.reduceEq, Int.reduceNeg, Int.reduceSub, Int.reduceMul, not_false_eq_true, true_and, and_true, and_self, Bool.or_false, Bool.false_or, Bool.or_true, Bool.true_or, List.length_nil, List.length_cons, Nat.zero_le, or_true, true_or, Nat.le_refl, ↓reduceIte, Nat.reduceEqDiff, forall_const, false_and, and_false, false_implies, implies_true, not_true_eq_false, or_false, false_or, ne_eq, jd_X0_isWhole, jf_X0]
    exact outer (S 0 9).toNat 0 _ (by omega) (fun k a b => by omega)
  · exact hS.elim
def js_X0_isTaken : jx_Sp := fun as g M Po => match as with
  | [(60, _, x), (0, _, w)] => ∃ S, (0 ≤ x ∧ rBd x S g M ∧ mB S ∧ (0 ≤ w ∧ w = S 0 9 - 1)) ∧ (mm_taken S → Po (0, 0, 1) g M) ∧ (¬ mm_taken S → Po (0, 0, 0) g M)
  | _ => False
set_option maxHeartbeats 4000000 in
theorem jt_X0_isTaken (l : Launch) : jx_Ct l yX0_isTaken (ws_ yX0_isTaken cX0_isTaken 4 (some .boolean)) 0 0 0 js_X0_isTaken := by
  refine jx_Ct_c (rc := 4) (by decide) rfl (fun D as g M Po hS => ?_)
  unfold js_X0_isTaken at hS
  split at hS
  · rename_i n1 x n2 w
    obtain ⟨S, ⟨hx, hR, hB, w0, hw⟩, hY, hN⟩ := hS
    have h9 := hB.1
    refine ⟨Nat.le_of_ble_eq_true rfl, ?_⟩
    have outer : ∀ (f a : Nat) (P3 : jx_A), (a : Int) + f = S 0 9 → (∀ k, 0 ≤ k → k < 3 * (a : Int) → k < 3 * w → S 6 k ≠ w) → jx_V D l (yX0_isTaken.cls, cX0_isTaken, 4, 4, [], 0, 0, 0, yX0_isTaken.name) Po 2 [(60, n1, x), (0, n2, w), (0, 0, (a : Int)), P3] [] (0, 0) g (M) := by
      intro f
      induction f with
      | zero =>
        intro a P3 ha k1
        refine jx_runL (o := jo_X0) (cs := []) (hf := jx_nh) jo_X0_ok jx_cs0 (jx_HK_nil rfl) (fun _ => false) 20 ?_
        simp only [jw, ju, jx_tg, Int.cast_ofNat_Int, Int.reduceAdd, Int.reduceToNat, Nat.reduceAdd, Nat.reduceMul, Nat.reduceBEq, Nat.reduceLeDiff, Int.reduceLE, Int.reduceLT, Int.reduceEq, Int.reduceNeg, Int.reduceSub, Int.reduceMul, not_false_eq_true, true_and, and_true, and_self, Bool.or_false, Bool.false_or, Bool.or_true, Bool.true_or, List.length_nil, List.length_cons, Nat.zero_le, or_true, true_or, Nat.le_refl, ↓reduceIte, Nat.reduceEqDiff, forall_const, false_and, and_false, false_implies, implies_true, not_true_eq_false, or_false, false_or, ne_eq, jd_X0_isTaken, jf_X0, hR.1]
        exact ⟨by omega, fun c => hN (fun ⟨k, b0, b1, b2⟩ => k1 k b0 (by omega) (by omega) (by omega)), fun c => by omega⟩
      | succ f ih =>
        intro a P3 ha k1
        have hA := hR.2.2.1 a (by omega) (by omega)
        have k3 := rA_k3 hA hx (by omega)
        have hn := mm_nop_3 (S 1 a)
        have nxt : ∀ P3 : jx_A, (∀ k, 0 ≤ k → k < 3 * (a : Int) + 3 → k < 3 * w → S 6 k ≠ w) → jx_V D l (yX0_isTaken.cls, cX0_isTaken, 4, 4, [], 0, 0, 0, yX0_isTaken.name) Po 53 [(60, n1, x), (0, n2, w), (0, 0, (a : Int)), P3] [] (0, 0) g (M) := by
          intro P3 k2
          refine jx_runL (o := jo_X0) (cs := []) (hf := jx_nh) jo_X0_ok jx_cs0 (jx_HK_nil rfl) (fun p => p == 2) 20 ?_
          simp only [jw, ju, jx_tg, Int.cast_ofNat_Int, Int.reduceAdd, Int.reduceToNat, Nat.reduceAdd, Nat.reduceMul, Nat.reduceBEq, Nat.reduceLeDiff, Int.reduceLE, Int.reduceLT, Int.reduceEq, Int.reduceNeg, Int.reduceSub, Int.reduceMul, not_false_eq_true, true_and, and_true, and_self, Bool.or_false, Bool.false_or, Bool.or_true, Bool.true_or, List.length_nil, List.length_cons, Nat.zero_le, or_true, true_or, Nat.le_refl, ↓reduceIte, Nat.reduceEqDiff, forall_const, false_and, and_false, false_implies, implies_true, not_true_eq_false, or_false, false_or, ne_eq, jd_X0_isTaken, jf_X0]
          have := ih (a + 1) P3 (by omega) (fun k b0 b1 b2 => k2 k b0 (by omega) b2)
          rw [show (((a + 1 : Nat) : Int)) = (a : Int) + 1 by omega] at this
          exact this
        have inner : ∀ (q i : Nat), (i : Int) + q = mm_nop (S 1 a) → (∀ k, 0 ≤ k → k < 3 * (a : Int) + i → k < 3 * w → S 6 k ≠ w) → jx_V D l (yX0_isTaken.cls, cX0_isTaken, 4, 4, [], 0, 0, 0, yX0_isTaken.name) Po 12 [(60, n1, x), (0, n2, w), (0, 0, (a : Int)), (0, 0, (i : Int))] [] (0, 0) g (M) := by
          intro q
          induction q with
          | zero =>
            intro i hi k2
            refine jx_runL (o := jo_X0) (cs := []) (hf := jx_nh) jo_X0_ok jx_cs0 (jx_HK_nil rfl) (fun p => p == 53) 20 ?_
            simp only [jw, ju, jx_tg, Int.cast_ofNat_Int, Int.reduceAdd, Int.reduceToNat, Nat.reduceAdd, Nat.reduceMul, Nat.reduceBEq, Nat.reduceLeDiff, Int.reduceLE, Int.reduceLT, Int.reduceEq, Int.reduceNeg, Int.reduceSub, Int.reduceMul, not_false_eq_true, true_and, and_true, and_self, Bool.or_false, Bool.false_or, Bool.or_true, Bool.true_or, List.length_nil, List.length_cons, Nat.zero_le, or_true, true_or, Nat.le_refl, ↓reduceIte, Nat.reduceEqDiff, forall_const, false_and, and_false, false_implies, implies_true, not_true_eq_false, or_false, false_or, ne_eq, jd_X0_isTaken, jf_X0, hR.1, rA_many hA]
            refine ⟨by omega, k3, by omega, fun c => nxt _ (fun k b0 b1 b2 => ?_), fun c => by omega⟩
            by_cases c2 : k < 3 * (a : Int) + i
            · exact k2 k b0 c2 b2
            · have := (hB.2.2.2.1 a (k - 3 * a) (by omega) (by omega) (by omega) (by omega)).2 (by omega)
              rw [show 3 * (a : Int) + (k - 3 * a) = k by omega] at this
              omega
          | succ q iq =>
            intro i hi k2
            have hof := rA_of hA (show 0 ≤ (i : Int) by omega) (by omega)
            have bo := mB_op hB (k := 3 * a + i) (by omega) (by omega)
            refine jx_runL (o := jo_X0) (cs := []) (hf := jx_nh) jo_X0_ok jx_cs0 (jx_HK_nil rfl) (fun p => p == 12 || p == 53) 30 ?_
            simp only [jw, ju, jx_tg, Int.cast_ofNat_Int, Int.reduceAdd, Int.reduceToNat, Nat.reduceAdd, Nat.reduceMul, Nat.reduceBEq, Nat.reduceLeDiff, Int.reduceLE, Int.reduceLT, Int.reduceEq, Int.reduceNeg, Int.reduceSub, Int.reduceMul, not_false_eq_true, true_and, and_true, and_self, Bool.or_false, Bool.false_or, Bool.or_true, Bool.true_or, List.length_nil, List.length_cons, Nat.zero_le, or_true, true_or, Nat.le_refl, ↓reduceIte, Nat.reduceEqDiff, forall_const, false_and, and_false, false_implies, implies_true, not_true_eq_false, or_false, false_or, ne_eq, jd_X0_isTaken, jf_X0, hR.1, rA_many hA, hof]
            refine ⟨by omega, k3, by omega, fun c => by omega, fun c => ⟨by omega, fun c1 => nxt _ (fun k b0 b1 b2 => k2 k b0 (by omega) b2), fun c1 => ⟨by omega, k3, by omega, by omega, fun c2 => ?_, fun c2 => hY ⟨3 * a + i, by omega, by omega, by omega⟩⟩⟩⟩
            have := iq (i + 1) (by omega) (fun k b0 b1 b2 => ?_)
            · rw [show (((i + 1 : Nat) : Int)) = (i : Int) + 1 by omega] at this
              exact this
            · by_cases c3 : k = 3 * (a : Int) + i
              · rw [c3]; exact c2
              · exact k2 k b0 (by omega) b2
        refine jx_runL (o := jo_X0) (cs := []) (hf := jx_nh) jo_X0_ok jx_cs0 (jx_HK_nil rfl) (fun p => p == 12) 20 ?_
        simp only [jw, ju, jx_tg, Int.cast_ofNat_Int, Int.reduceAdd, Int.reduceToNat, Nat.reduceAdd, Nat.reduceMul, Nat.reduceBEq, Nat.reduceLeDiff, Int.reduceLE, Int.reduceLT, Int.reduceEq, Int.reduceNeg, Int.reduceSub, Int.reduceMul, not_false_eq_true, true_and, and_true, and_self, Bool.or_false, Bool.false_or, Bool.or_true, Bool.true_or, List.length_nil, List.length_cons, Nat.zero_le, or_true, true_or, Nat.le_refl, ↓reduceIte, Nat.reduceEqDiff, forall_const, false_and, and_false, false_implies, implies_true, not_true_eq_false, or_false, false_or, ne_eq, jd_X0_isTaken, jf_X0, hR.1]
        exact ⟨by omega, fun c => by omega, fun c => inner (mm_nop (S 1 a)).toNat 0 (by omega) (fun k b0 b1 b2 => k1 k b0 (by omega) b2)⟩
    refine jx_runL (o := jo_X0) (cs := []) (hf := jx_nh) jo_X0_ok jx_cs0 (jx_HK_nil rfl) (fun p => p == 2) 20 ?_
    simp only [jw, ju, jx_tg, Int.cast_ofNat_Int, Int.reduceAdd, Int.reduceToNat, Nat.reduceAdd, Nat.reduceMul, Nat.reduceBEq, Nat.reduceLeDiff, Int.reduceLE, Int.reduceLT, Int.reduceEq, Int.reduceNeg, Int.reduceSub, Int.reduceMul, not_false_eq_true, true_and, and_true, and_self, Bool.or_false, Bool.false_or, Bool.or_true, Bool.true_or, List.length_nil, List.length_cons, Nat.zero_le, or_true, true_or, Nat.le_refl, ↓reduceIte, Nat.reduceEqDiff, forall_const, false_and, and_false, false_implies, implies_true, not_true_eq_false, or_false, false_or, ne_eq, jd_X0_isTaken, jf_X0]
    exact outer (S 0 9).toNat 0 _ (by omega) (fun k a b => by omega)
  · exact hS.elim
def js_X0_mostStages : jx_Sp := fun as g M Po => match as with
  | [(60, _, x)] => ((0 ≤ M x 5 ∧ M x 5 ≤ 16) ∧ ∀ a, 0 ≤ a → a < M x 5 → 0 ≤ M (x + 31) a ∧ M (x + 31) a ≤ 1000) ∧ Po (0, 0, mm_max (M (x + 31)) (M x 5).toNat + 1) g M
  | _ => False
def cs_X0_mostStages : jx_Cs := [(319, 2, 0, 0, js_J10_max)]
theorem hc_X0_mostStages {D : jx_D} {l : Launch} : jx_CsOK D l "LoopLane" 1 cs_X0_mostStages := List.forall_mem_cons.mpr ⟨jx_CS_max q910, fun _ h => absurd h List.not_mem_nil⟩
set_option maxHeartbeats 4000000 in
theorem jt_X0_mostStages (l : Launch) : jx_Ct l yX0_mostStages (ws_ yX0_mostStages cX0_mostStages 3 (some .int)) 1 0 0 js_X0_mostStages := by
  refine jx_Ct_c (rc := 0) (by decide) rfl (fun D as g M Po hS => ?_)
  unfold js_X0_mostStages at hS
  split at hS
  · rename_i n1 x
    obtain ⟨⟨h1, h2⟩, hP⟩ := hS
    refine ⟨Nat.le_of_ble_eq_true rfl, ?_⟩
    have loop : ∀ (f k : Nat), (k : Int) + f = M x 5 → jx_V D l (yX0_mostStages.cls, cX0_mostStages, 3, 0, [], 1, 0, 0, yX0_mostStages.name) Po 4 [(60, n1, x), (0, 0, mm_max (M (x + 31)) k), (0, 0, (k : Int))] [] (0, 0) g (M) := by
      intro f
      induction f with
      | zero =>
        intro k hk
        refine jx_runL (o := jo_X0) (cs := cs_X0_mostStages) (hf := jx_nh) jo_X0_ok hc_X0_mostStages (jx_HK_nil rfl) (fun p => p == 4) 20 ?_
        simp only [jw, ju, jx_tg, Int.cast_ofNat_Int, Int.reduceAdd, Int.reduceToNat, Nat.reduceAdd, Nat.reduceMul, Nat.reduceBEq, Nat.reduceLeDiff, Int.reduceLE, Int.reduceLT, Int.reduceEq, Int.reduceNeg, Int.reduceSub, Int.reduceMul, not_false_eq_true, true_and, and_true, and_self, Bool.or_false, Bool.false_or, Bool.or_true, Bool.true_or, List.length_nil, List.length_cons, Nat.zero_le, or_true, true_or, Nat.le_refl, ↓reduceIte, Nat.reduceEqDiff, forall_const, false_and, and_false, false_implies, implies_true, not_true_eq_false, or_false, false_or, ne_eq, jd_X0_mostStages, jf_X0, js_J10_max, cs_X0_mostStages, jx_ck_c]
        refine ⟨by omega, fun c => ?_, fun c => by omega⟩
        rw [show (M x 5).toNat = k by omega, show mm_max (M (x + 31)) k + 1 = 1 + mm_max (M (x + 31)) k by omega] at hP
        exact hP
      | succ f ih =>
        intro k hk
        have hr := mm_max_r (M (x + 31)) 1000 (by omega) k (fun v a b => (h2 v a (by omega)).2)
        have hv := h2 k (by omega) (by omega)
        refine jx_runL (o := jo_X0) (cs := cs_X0_mostStages) (hf := jx_nh) jo_X0_ok hc_X0_mostStages (jx_HK_nil rfl) (fun p => p == 4) 20 ?_
        simp only [jw, ju, jx_tg, Int.cast_ofNat_Int, Int.reduceAdd, Int.reduceToNat, Nat.reduceAdd, Nat.reduceMul, Nat.reduceBEq, Nat.reduceLeDiff, Int.reduceLE, Int.reduceLT, Int.reduceEq, Int.reduceNeg, Int.reduceSub, Int.reduceMul, not_false_eq_true, true_and, and_true, and_self, Bool.or_false, Bool.false_or, Bool.or_true, Bool.true_or, List.length_nil, List.length_cons, Nat.zero_le, or_true, true_or, Nat.le_refl, ↓reduceIte, Nat.reduceEqDiff, forall_const, false_and, and_false, false_implies, implies_true, not_true_eq_false, or_false, false_or, ne_eq, jd_X0_mostStages, jf_X0, js_J10_max, cs_X0_mostStages, jx_ck_c]
        refine ⟨by omega, fun c => by omega, fun c => ⟨by omega, ⟨⟨by omega, by omega⟩, by omega, by omega⟩, ?_⟩⟩
        have := ih (k + 1) (by omega)
        rw [show mm_max (M (x + 31)) (k + 1) = max (mm_max (M (x + 31)) k) (M (x + 31) k) from rfl, show (((k + 1 : Nat) : Int)) = (k : Int) + 1 by omega] at this
        exact this
    refine jx_runL (o := jo_X0) (cs := cs_X0_mostStages) (hf := jx_nh) jo_X0_ok hc_X0_mostStages (jx_HK_nil rfl) (fun p => p == 4) 20 ?_
    simp only [jw, ju, jx_tg, Int.cast_ofNat_Int, Int.reduceAdd, Int.reduceToNat, Nat.reduceAdd, Nat.reduceMul, Nat.reduceBEq, Nat.reduceLeDiff, Int.reduceLE, Int.reduceLT, Int.reduceEq, Int.reduceNeg, Int.reduceSub, Int.reduceMul, not_false_eq_true, true_and, and_true, and_self, Bool.or_false, Bool.false_or, Bool.or_true, Bool.true_or, List.length_nil, List.length_cons, Nat.zero_le, or_true, true_or, Nat.le_refl, ↓reduceIte, Nat.reduceEqDiff, forall_const, false_and, and_false, false_implies, implies_true, not_true_eq_false, or_false, false_or, ne_eq, jd_X0_mostStages, jf_X0, js_J10_max, cs_X0_mostStages, jx_ck_c]
    exact loop (M x 5).toNat 0 (by omega)
  · exact hS.elim
