/-! LoopLane: isAhead, check -/
set_option maxRecDepth 100000
def js_X0_isAhead : jx_Sp := fun as g M Po => match as with
  | [(60, _, x), (0, _, e), (0, _, f)] => ((0 ≤ e ∧ e < 900) ∧ (0 ≤ f ∧ f < 900) ∧ (jx_r (M (x + 26) e) ∧ jx_r (M (x + 27) e) ∧ jx_r (M (x + 28) e) ∧ jx_r (M (x + 29) e)) ∧ (jx_r (M (x + 26) f) ∧ jx_r (M (x + 27) f) ∧ jx_r (M (x + 28) f) ∧ jx_r (M (x + 29) f))) ∧
      (mm_lx (M (x + 26) e) (M (x + 27) e) (M (x + 28) e) (M (x + 29) e) (M (x + 26) f) (M (x + 27) f) (M (x + 28) f) (M (x + 29) f) → Po (0, 0, 1) g M) ∧
      (¬ mm_lx (M (x + 26) e) (M (x + 27) e) (M (x + 28) e) (M (x + 29) e) (M (x + 26) f) (M (x + 27) f) (M (x + 28) f) (M (x + 29) f) → Po (0, 0, 0) g M)
  | _ => False
set_option maxHeartbeats 4000000 in
theorem jt_X0_isAhead (l : Launch) : jx_Ct l yX0_isAhead (ws_ yX0_isAhead cX0_isAhead 3 (some .boolean)) 0 0 0 js_X0_isAhead := by
  refine jx_Ct_c (rc := 4) (by decide) rfl (fun D as g M Po hS => ?_)
  unfold js_X0_isAhead at hS
  split at hS
  · rename_i n1 x n2 e n3 f
    obtain ⟨⟨h1, h2, ⟨e0, e1, e2, e3⟩, ⟨f0, f1, f2, f3⟩⟩, hP1, hP0⟩ := hS
    unfold mm_lx at hP1 hP0
    refine ⟨Nat.le_of_ble_eq_true rfl, ?_⟩
    have at72 : M (x + 27) e = M (x + 27) f → M (x + 26) e = M (x + 26) f → jx_V D l (yX0_isAhead.cls, cX0_isAhead, 3, 4, [], 0, 0, 0, yX0_isAhead.name) Po 72 [(60, n1, x), (0, n2, e), (0, n3, f)] [] (0, 0) g (M) := by
      intro c1 c2
      refine jx_runL (o := jo_X0) (cs := []) (hf := jx_nh) jo_X0_ok jx_cs0 (jx_HK_nil rfl) (fun _ => false) 60 ?_
      simp only [jw, ju, jx_tg, Int.cast_ofNat_Int, Int.reduceAdd, Int.reduceToNat, Nat.reduceAdd, Nat.reduceMul, Nat.reduceBEq, Nat.reduceLeDiff, Int.reduceLE, Int.reduceLT, Int.reduceEq, Int.reduceNeg, Int.reduceSub, Int.reduceMul, not_false_eq_true, true_and, and_true, and_self, Bool.or_false, Bool.false_or, Bool.or_true, Bool.true_or, List.length_nil, List.length_cons, Nat.zero_le, or_true, true_or, Nat.le_refl, ↓reduceIte, Nat.reduceEqDiff, forall_const, false_and, and_false, false_implies, implies_true, not_true_eq_false, or_false, false_or, ne_eq, jd_X0_isAhead, jf_X0]
      refine ⟨h1, h2, ⟨e2, f2⟩, fun c => ⟨h1, h2, ⟨e3, f3⟩, fun c4 => hP0 (by omega), fun c4 => hP1 (by omega)⟩, fun c => ⟨h1, h2, ⟨e2, f2⟩, fun c4 => hP0 (by omega), fun c4 => hP1 (by omega)⟩⟩
    have at36 : M (x + 27) e = M (x + 27) f → jx_V D l (yX0_isAhead.cls, cX0_isAhead, 3, 4, [], 0, 0, 0, yX0_isAhead.name) Po 36 [(60, n1, x), (0, n2, e), (0, n3, f)] [] (0, 0) g (M) := by
      intro c1
      refine jx_runL (o := jo_X0) (cs := []) (hf := jx_nh) jo_X0_ok jx_cs0 (jx_HK_nil rfl) (fun p => p == 72) 60 ?_
      simp only [jw, ju, jx_tg, Int.cast_ofNat_Int, Int.reduceAdd, Int.reduceToNat, Nat.reduceAdd, Nat.reduceMul, Nat.reduceBEq, Nat.reduceLeDiff, Int.reduceLE, Int.reduceLT, Int.reduceEq, Int.reduceNeg, Int.reduceSub, Int.reduceMul, not_false_eq_true, true_and, and_true, and_self, Bool.or_false, Bool.false_or, Bool.or_true, Bool.true_or, List.length_nil, List.length_cons, Nat.zero_le, or_true, true_or, Nat.le_refl, ↓reduceIte, Nat.reduceEqDiff, forall_const, false_and, and_false, false_implies, implies_true, not_true_eq_false, or_false, false_or, ne_eq, jd_X0_isAhead, jf_X0]
      refine ⟨h1, h2, ⟨e0, f0⟩, fun c => at72 c1 c, fun c => ⟨h1, h2, ⟨e0, f0⟩, fun c4 => hP0 (by omega), fun c4 => hP1 (by omega)⟩⟩
    refine jx_runL (o := jo_X0) (cs := []) (hf := jx_nh) jo_X0_ok jx_cs0 (jx_HK_nil rfl) (fun p => p == 36) 60 ?_
    simp only [jw, ju, jx_tg, Int.cast_ofNat_Int, Int.reduceAdd, Int.reduceToNat, Nat.reduceAdd, Nat.reduceMul, Nat.reduceBEq, Nat.reduceLeDiff, Int.reduceLE, Int.reduceLT, Int.reduceEq, Int.reduceNeg, Int.reduceSub, Int.reduceMul, not_false_eq_true, true_and, and_true, and_self, Bool.or_false, Bool.false_or, Bool.or_true, Bool.true_or, List.length_nil, List.length_cons, Nat.zero_le, or_true, true_or, Nat.le_refl, ↓reduceIte, Nat.reduceEqDiff, forall_const, false_and, and_false, false_implies, implies_true, not_true_eq_false, or_false, false_or, ne_eq, jd_X0_isAhead, jf_X0]
    refine ⟨h1, h2, ⟨e1, f1⟩, fun c => at36 c, fun c => ⟨h1, h2, ⟨e1, f1⟩, fun c4 => hP0 (by omega), fun c4 => hP1 (by omega)⟩⟩
  · exact hS.elim
theorem rR_wrong {x : Int} {S S' : jx_M} {g : jx_S} {M M' : jx_M} (h9 : S 0 9 ≤ 16) (hR : rR x S g M) (es : ∀ j, j ≠ 31 → S' j = S j) (hM : ∀ z k, z ≠ x + 49 → M' z k = M z k) (hw : ∀ k, 0 ≤ k → k < 6 → M' (x + 49) k = S' 31 k) : rR x S' g M' := by
  have x0 := hR.1.1
  have e0 := es 0 (by decide)
  have z : mZ S S' := ⟨fun j a b => es j (by omega), by rw [e0], by rw [e0]⟩
  refine ⟨hR.1, rBd_c (by rw [e0]; exact h9) (rBd_Z z hR.2.1) (fun z k w => hM z k (by unfold qBd at w; omega)), rEd_c (rEd_Z z hR.2.2.1) (fun z k w => hM z k (by unfold qEd at w; omega)), ?_, ?_, ?_, ?_⟩
  · exact rLd_S (rLd_c hR.2.2.2.1 (fun z k w => hM z k (by unfold qLd at w; omega))) (by rw [e0]) (by rw [e0]) (es _ (by decide)) (es _ (by decide)) (es _ (by decide))
  · exact rRs_S (rRs_c hR.2.2.2.2.1 (fun z k w => hM z k (by unfold qRs at w; omega))) (fun k _ _ => by rw [e0]) (by rw [e0]) (es _ (by decide))
  · obtain ⟨m1, m2, m3, m4, m5⟩ := hR.2.2.2.2.2.1
    exact ⟨by rw [hM _ _ (by omega), e0]; exact m1, by rw [hM _ _ (by omega), e0]; exact m2, fun k k0 k1 => by rw [hM _ _ (by omega), es 23 (by decide)]; exact m3 k k0 k1, hw, fun k k0 k1 => by rw [hM _ _ (by omega)]; exact m5 k k0 k1⟩
  · exact rSl_S (rSl_c hR.2.2.2.2.2.2 (fun z k w => hM z k (by unfold qSl at w; omega))) (es _ (by decide)) (es _ (by decide)) (es _ (by decide))
def js_X0_check : jx_Sp := fun as g M Po => match as with
  | [(60, _, x)] => ∃ S, (rR x S g M ∧ mW S) ∧ rK x g M Po 0 (f_check S).1 (f_check S).2
  | _ => False
def cs_X0_check : jx_Cs := [(1431, 3, 0, 0, js_X0_isAhead), (1419, 4, 0, 0, js_X0_filledAt), (1161, 2, 0, 0, js_X0_refuse)]
theorem hc_X0_check {D : jx_D} {l : Launch} : jx_CsOK D l "LoopLane" 5 cs_X0_check := List.forall_mem_cons.mpr ⟨jc_X0_477 (jt_X0_isAhead l) (fun as g M Po (h : js_X0_isAhead as g M Po) => by unfold js_X0_isAhead at h; split at h <;> first | exact h.elim | exact ⟨_, _, _, rfl, rfl⟩) (by decide), List.forall_mem_cons.mpr ⟨jc_X0_473 (jt_X0_filledAt l) (fun as g M Po (h : js_X0_filledAt as g M Po) => by unfold js_X0_filledAt at h; split at h <;> first | exact h.elim | exact ⟨_, _, _, rfl, rfl⟩) (by decide), List.forall_mem_cons.mpr ⟨jc_X0_387 (jt_X0_refuse l) (fun as g M Po (h : js_X0_refuse as g M Po) => by unfold js_X0_refuse at h; split at h <;> first | exact h.elim | exact ⟨_, _, _, rfl, rfl⟩) (by decide), fun _ h => absurd h List.not_mem_nil⟩⟩⟩
set_option maxHeartbeats 4000000 in
theorem jt_X0_check (l : Launch) : jx_Ct l yX0_check (ws_ yX0_check cX0_check 4 (some .int)) 5 0 0 js_X0_check := by
  refine jx_Ct_c (rc := 0) (by decide) rfl (fun D as g M Po hS => ?_)
  unfold js_X0_check at hS
  split at hS
  · rename_i n1 x
    obtain ⟨S, ⟨hR, hW⟩, hK⟩ := hS
    have hB := hW.1
    have h9 := hB.1
    have x0 := hR.1.1
    have hb := hW.2.1
    have l1 := hR.2.2.2.1.1
    unfold f_check at hK
    simp only [rK_ite, mno] at hK
    refine ⟨Nat.le_of_ble_eq_true rfl, ?_⟩
    by_cases c0 : S 0 27 = 0
    · rw [if_pos c0] at l1
      refine jx_runL (o := jo_X0) (cs := cs_X0_check) (hf := jx_nh) jo_X0_ok hc_X0_check (jx_HK_nil rfl) (fun p => p == 14) 20 ?_
      simp only [jw, ju, jx_tg, Int.cast_ofNat_Int, Int.reduceAdd, Int.reduceToNat, Nat.reduceAdd, Nat.reduceMul, Nat.reduceBEq, Nat.reduceLeDiff, Int.reduceLE, Int.reduceLT, Int.reduceEq, Int.reduceNeg, Int.reduceSub, Int.reduceMul, not_false_eq_true, true_and, and_true, and_self, Bool.or_false, Bool.false_or, Bool.or_true, Bool.true_or, List.length_nil, List.length_cons, Nat.zero_le, or_true, true_or, Nat.le_refl, ↓reduceIte, Nat.reduceEqDiff, forall_const, false_and, and_false, false_implies, implies_true, not_true_eq_false, or_false, false_or, ne_eq, jd_X0_check, jd_X0_check_1, jf_X0, l1, js_X0_filledAt, js_X0_isAhead, js_X0_refuse, cs_X0_check, jx_ck_c]
      exact rK_no h9.2 (by decide) hR rFr_rf (hK.1 c0)
    · rw [if_neg c0] at l1
      have hK2 := hK.2 c0
      have l2 := hR.2.2.2.1.2 c0
      obtain ⟨M0, hM0⟩ : ∃ q, q = jx_u (jx_u (jx_u (jx_u (jx_u (jx_u M (x + 49) 0 (-1)) (x + 49) 1 (-1)) (x + 49) 2 (-1)) (x + 49) 3 (-1)) (x + 49) 4 (-1)) (x + 49) 5 (-1) := ⟨_, rfl⟩
      have m0 : ∀ z k, z ≠ x + 49 → M0 z k = M z k := fun z k h => by
        rw [hM0]
        simp (disch := omega) only [jx_u_a]
      have m49 : ∀ k, 0 ≤ k → k < 6 → M0 (x + 49) k = -1 := fun k k0 k1 => by
        rw [hM0]
        rcases (show k = 0 ∨ k = 1 ∨ k = 2 ∨ k = 3 ∨ k = 4 ∨ k = 5 by omega) with rfl | rfl | rfl | rfl | rfl | rfl <;> simp (disch := omega) only [jx_u_j, jx_u_eq]
      have su : ∀ k, 0 ≤ k → k < 6 → mu_unwrong S 0 31 k = -1 := fun k k0 k1 => by
        unfold mu_unwrong
        simp only [Int.zero_add]
        rcases (show k = 0 ∨ k = 1 ∨ k = 2 ∨ k = 3 ∨ k = 4 ∨ k = 5 by omega) with rfl | rfl | rfl | rfl | rfl | rfl <;> simp (disch := omega) only [jx_u_j, jx_u_eq]
      have sr : ∀ j, j ≠ 31 → mu_unwrong S 0 j = S j := fun j h => by
        unfold mu_unwrong
        simp only [Int.zero_add]
        rw [jx_u_row h, jx_u_row h, jx_u_row h, jx_u_row h, jx_u_row h, jx_u_row h]
      have R0 : rR x (mu_unwrong S 0) g M0 := rR_wrong h9.2 hR sr m0 (fun k k0 k1 => by rw [m49 k k0 k1, su k k0 k1])
      have F0 : rFr x g M g M0 := ⟨rG_rf, fun z i w => m0 z i (by omega)⟩
      have eA : M0 (x + 26) = M (x + 26) ∧ M0 (x + 27) = M (x + 27) ∧ M0 (x + 28) = M (x + 28) ∧ M0 (x + 29) = M (x + 29) := ⟨funext fun k => m0 _ _ (by omega), funext fun k => m0 _ _ (by omega), funext fun k => m0 _ _ (by omega), funext fun k => m0 _ _ (by omega)⟩
      have hEd := hR.2.2.1
      have e23 : M0 x 23 = M x 23 := m0 _ _ (by omega)
      have nr := me_n_r (S := S) h9
      have h15 := hB.2.1
      have e23r : 0 ≤ M x 23 ∧ M x 23 ≤ 704 := by have := hEd.1; omega
      obtain ⟨A, hA⟩ : ∃ q, q = M (x + 26) := ⟨_, rfl⟩
      obtain ⟨B, hBB⟩ : ∃ q, q = M (x + 27) := ⟨_, rfl⟩
      obtain ⟨T, hT⟩ : ∃ q, q = M (x + 28) := ⟨_, rfl⟩
      obtain ⟨U, hU⟩ : ∃ q, q = M (x + 29) := ⟨_, rfl⟩
      have hEO := hEd.2.2
      rw [← hA, ← hBB, ← hT, ← hU] at hEO eA
      have er : ∀ e, 0 ≤ e → e < M x 23 → (0 ≤ A e ∧ A e < S 0 9) ∧ (0 ≤ B e ∧ B e < S 0 9) ∧ (-50 ≤ T e ∧ T e ≤ 50) ∧ (0 ≤ U e ∧ U e ≤ 4) := fun e e0 e1 => me_all_r hB (hEO.1 e e0 e1)
      have fr : ∀ a, 0 ≤ a → a < S 0 9 → M0 (x + 32) a = S 27 a ∧ 0 ≤ S 27 a ∧ S 27 a ≤ 100000 := fun a a0 a1 => by
        rw [m0 _ _ (by omega), (l2.2 a a0 a1).2.2]
        exact ⟨rfl, ((hW.2.2.1 c0).2.1 a a0 a1).2.2.2⟩
      have e26 : M0 x 26 = S 0 27 := by rw [m0 _ _ (by omega), l2.1]
      -- the units
      have at185 : ¬ (∃ a b t d, me_bad S a b t d) → ∀ P2 P3 : jx_A, jx_V D l (yX0_check.cls, cX0_check, 4, 0, [], 5, 0, 0, yX0_check.name) Po 185 [(60, n1, x), (0, 0, -1), P2, P3] [] (0, 0) g (M0) := by
        intro nb P2 P3
        have hK3 := hK2.2 nb
        have hsp := mm_fst_spec (mm_over S) (-1) 360 0
        have outer : ∀ (f k : Nat) (P3 : jx_A), k + f = 6 → (∀ c : Int, 0 ≤ c → c < 60 * (k : Int) → ¬ mm_over S c) → jx_V D l (yX0_check.cls, cX0_check, 4, 0, [], 5, 0, 0, yX0_check.name) Po 187 [(60, n1, x), (0, 0, -1), (0, 0, (k : Int)), P3] [] (0, 0) g (M0) := by
          intro f
          induction f with
          | zero =>
            intro k P3 hk k1
            have hm : mm_fst (mm_over S) (-1) 360 0 = -1 := by
              rcases hsp with q | q
              · exact q.2
              · exact absurd q.2.2.1 (k1 _ q.1 (by omega))
            refine jx_runL (o := jo_X0) (cs := cs_X0_check) (hf := jx_nh) jo_X0_ok hc_X0_check (jx_HK_nil rfl) (fun _ => false) 20 ?_
            simp only [jw, ju, jx_tg, Int.cast_ofNat_Int, Int.reduceAdd, Int.reduceToNat, Nat.reduceAdd, Nat.reduceMul, Nat.reduceBEq, Nat.reduceLeDiff, Int.reduceLE, Int.reduceLT, Int.reduceEq, Int.reduceNeg, Int.reduceSub, Int.reduceMul, not_false_eq_true, true_and, and_true, and_self, Bool.or_false, Bool.false_or, Bool.or_true, Bool.true_or, List.length_nil, List.length_cons, Nat.zero_le, or_true, true_or, Nat.le_refl, ↓reduceIte, Nat.reduceEqDiff, forall_const, false_and, and_false, false_implies, implies_true, not_true_eq_false, or_false, false_or, ne_eq, jd_X0_check, jd_X0_check_1, jf_X0, js_X0_filledAt, js_X0_isAhead, js_X0_refuse, cs_X0_check, jx_ck_c]
            exact ⟨by omega, fun c => hK3.1 hm _ _ R0 F0, fun c => by omega⟩
          | succ f ih =>
            intro k P3 hk k1
            have uk := R0.2.1.2.2.2.1 k (by omega) (by omega)
            rw [sr 10 (by decide)] at uk
            have ur := hB.2.2.2.2.2 k (by omega) (by omega)
            have inner : ∀ (q t : Nat), (t : Int) + q = S 0 27 → (∀ c : Int, 0 ≤ c → c < 60 * (k : Int) + t → ¬ mm_over S c) → jx_V D l (yX0_check.cls, cX0_check, 4, 0, [], 5, 0, 0, yX0_check.name) Po 195 [(60, n1, x), (0, 0, -1), (0, 0, (k : Int)), (0, 0, (t : Int))] [] (0, 0) g (M0) := by
              intro q
              induction q with
              | zero =>
                intro t ht k2
                have nx := ih (k + 1) (0, 0, (t : Int)) (by omega) (fun c q0 q1 w => by
                  by_cases d : c < 60 * (k : Int) + t
                  · exact k2 c q0 d w
                  · have := w.1; omega)
                rw [show (((k + 1 : Nat) : Int)) = (k : Int) + 1 by omega] at nx
                refine jx_runL (o := jo_X0) (cs := cs_X0_check) (hf := jx_nh) jo_X0_ok hc_X0_check (jx_HK_nil rfl) (fun p => p == 187) 30 ?_
                simp only [jw, ju, jx_tg, Int.cast_ofNat_Int, Int.reduceAdd, Int.reduceToNat, Nat.reduceAdd, Nat.reduceMul, Nat.reduceBEq, Nat.reduceLeDiff, Int.reduceLE, Int.reduceLT, Int.reduceEq, Int.reduceNeg, Int.reduceSub, Int.reduceMul, not_false_eq_true, true_and, and_true, and_self, Bool.or_false, Bool.false_or, Bool.or_true, Bool.true_or, List.length_nil, List.length_cons, Nat.zero_le, or_true, true_or, Nat.le_refl, ↓reduceIte, Nat.reduceEqDiff, forall_const, false_and, and_false, false_implies, implies_true, not_true_eq_false, or_false, false_or, ne_eq, jd_X0_check, jd_X0_check_1, jf_X0, e26, js_X0_filledAt, js_X0_isAhead, js_X0_refuse, cs_X0_check, jx_ck_c]
                exact ⟨by omega, fun c => nx, fun c => by omega⟩
              | succ q iq =>
                intro t ht k2
                have fr' := mm_fill_r (S := S) (A := S 27) (k := k) (t := t) h9
                have ov : mm_over S (60 * (k : Int) + t) ↔ S 10 k < mm_fill S (S 27) k t := by
                  unfold mm_over
                  rw [show (60 * (k : Int) + t) % 60 = t by omega, show (60 * (k : Int) + t) / 60 = k by omega]
                  exact ⟨fun w => w.2, fun w => ⟨by omega, w⟩⟩
                refine jx_runL (o := jo_X0) (cs := cs_X0_check) (hf := jx_nh) jo_X0_ok hc_X0_check (jx_HK_nil rfl) (fun p => p == 195 || p == 241) 60 ?_
                simp only [jw, ju, jx_tg, Int.cast_ofNat_Int, Int.reduceAdd, Int.reduceToNat, Nat.reduceAdd, Nat.reduceMul, Nat.reduceBEq, Nat.reduceLeDiff, Int.reduceLE, Int.reduceLT, Int.reduceEq, Int.reduceNeg, Int.reduceSub, Int.reduceMul, not_false_eq_true, true_and, and_true, and_self, Bool.or_false, Bool.false_or, Bool.or_true, Bool.true_or, List.length_nil, List.length_cons, Nat.zero_le, or_true, true_or, Nat.le_refl, ↓reduceIte, Nat.reduceEqDiff, forall_const, false_and, and_false, false_implies, implies_true, not_true_eq_false, or_false, false_or, ne_eq, jd_X0_check, jd_X0_check_1, jf_X0, e26, uk, js_X0_filledAt, js_X0_isAhead, js_X0_refuse, cs_X0_check, jx_ck_c]
                refine ⟨by omega, fun c => by omega, fun c => ⟨S, ⟨x0, ?_, ?_, hW, c0, by omega, ⟨by omega, by omega⟩⟩, ?_⟩⟩
                · exact rBd_c h9.2 hR.2.1 (fun z k w => m0 z k (by unfold qBd at w; omega))
                · exact rLd_c hR.2.2.2.1 (fun z k w => m0 z k (by unfold qLd at w; omega))
                refine ⟨by omega, by omega, fun c2 => ?_, fun c2 => ?_⟩
                · have := iq (t + 1) (by omega) (fun c q0 q1 w => by
                    rcases (show c < 60 * (k : Int) + t ∨ c = 60 * (k : Int) + t by omega) with d | d
                    · exact k2 c q0 d w
                    · rw [d] at w; have := ov.mp w; omega)
                  rw [show (((t + 1 : Nat) : Int)) = (t : Int) + 1 by omega] at this
                  exact this
                · have hm : mm_fst (mm_over S) (-1) 360 0 = 60 * (k : Int) + t := by
                    rcases hsp with q | q
                    · exact absurd (ov.mpr (by omega)) (q.1 _ (by omega) (by omega))
                    · rcases (show mm_fst (mm_over S) (-1) 360 0 < 60 * (k : Int) + t ∨ mm_fst (mm_over S) (-1) 360 0 = 60 * (k : Int) + t ∨ 60 * (k : Int) + t < mm_fst (mm_over S) (-1) 360 0 by omega) with w | w | w
                      · exact absurd q.2.2.1 (k2 _ q.1 w)
                      · exact w
                      · exact absurd (ov.mpr (by omega)) (q.2.2.2 _ (by omega) w)
                  have hk4 := hK3.2 (by omega)
                  unfold mu_w2 at hk4
                  rw [hm, show (60 * (k : Int) + t) % 60 = t by omega, show (60 * (k : Int) + t) / 60 = k by omega] at hk4
                  refine hk4 _ _ (rR_wrong h9.2 hR (fun j h => by rw [jx_u_row h, jx_u_row h, sr j h]) (fun z i h => by rw [jx_u_a _ _ _ _ _ _ h, jx_u_a _ _ _ _ _ _ h, m0 z i h]) (fun i i0 i1 => ?_)) (rFr_u (rFr_u F0 (by omega)) (by omega))
                  have a1 := m49 i i0 i1
                  have a2 := su i i0 i1
                  rcases (show i = 5 ∨ i = 4 ∨ (i ≠ 5 ∧ i ≠ 4) by omega) with rfl | rfl | d
                  · rw [jx_u_eq, jx_u_eq]
                  · simp (disch := omega) only [jx_u_j, jx_u_eq]
                  · rw [jx_u_j _ _ _ _ _ _ d.1, jx_u_j _ _ _ _ _ _ d.1, jx_u_j _ _ _ _ _ _ d.2, jx_u_j _ _ _ _ _ _ d.2, a1, a2]
            refine jx_runL (o := jo_X0) (cs := cs_X0_check) (hf := jx_nh) jo_X0_ok hc_X0_check (jx_HK_nil rfl) (fun p => p == 195 || p == 247) 20 ?_
            simp only [jw, ju, jx_tg, Int.cast_ofNat_Int, Int.reduceAdd, Int.reduceToNat, Nat.reduceAdd, Nat.reduceMul, Nat.reduceBEq, Nat.reduceLeDiff, Int.reduceLE, Int.reduceLT, Int.reduceEq, Int.reduceNeg, Int.reduceSub, Int.reduceMul, not_false_eq_true, true_and, and_true, and_self, Bool.or_false, Bool.false_or, Bool.or_true, Bool.true_or, List.length_nil, List.length_cons, Nat.zero_le, or_true, true_or, Nat.le_refl, ↓reduceIte, Nat.reduceEqDiff, forall_const, false_and, and_false, false_implies, implies_true, not_true_eq_false, or_false, false_or, ne_eq, jd_X0_check, jd_X0_check_1, jf_X0, js_X0_filledAt, js_X0_isAhead, js_X0_refuse, cs_X0_check, jx_ck_c]
            exact ⟨by omega, fun c => by omega, fun c => inner (S 0 27).toNat 0 (by omega) (fun c q0 q1 => k1 c q0 (by omega))⟩
        refine jx_runL (o := jo_X0) (cs := cs_X0_check) (hf := jx_nh) jo_X0_ok hc_X0_check (jx_HK_nil rfl) (fun p => p == 187) 20 ?_
        simp only [jw, ju, jx_tg, Int.cast_ofNat_Int, Int.reduceAdd, Int.reduceToNat, Nat.reduceAdd, Nat.reduceMul, Nat.reduceBEq, Nat.reduceLeDiff, Int.reduceLE, Int.reduceLT, Int.reduceEq, Int.reduceNeg, Int.reduceSub, Int.reduceMul, not_false_eq_true, true_and, and_true, and_self, Bool.or_false, Bool.false_or, Bool.or_true, Bool.true_or, List.length_nil, List.length_cons, Nat.zero_le, or_true, true_or, Nat.le_refl, ↓reduceIte, Nat.reduceEqDiff, forall_const, false_and, and_false, false_implies, implies_true, not_true_eq_false, or_false, false_or, ne_eq, jd_X0_check, jd_X0_check_1, jf_X0, js_X0_filledAt, js_X0_isAhead, js_X0_refuse, cs_X0_check, jx_ck_c]
        exact outer 6 0 _ rfl (fun c q0 q1 => by omega)
      have bads : ∀ e, 0 ≤ e → e < M x 23 → (me_bad S (A e) (B e) (T e) (U e) ↔ S 27 (B e) + S 0 27 * U e < S 27 (A e) + T e) := fun e e0 e1 => ⟨fun w => w.2, fun w => ⟨hEO.1 e e0 e1, w⟩⟩
      have badx : ∀ a b t d, me_bad S a b t d → ∃ e, 0 ≤ e ∧ e < M x 23 ∧ A e = a ∧ B e = b ∧ T e = t ∧ U e = d := fun a b t d w => hEO.2 a b t d w.1
      have scan : ∀ (f e : Nat) (bd : Int) (P3 : jx_A), (e : Int) + f = M x 23 → (bd = -1 ∧ (∀ i, 0 ≤ i → i < (e : Int) → ¬ me_bad S (A i) (B i) (T i) (U i)) ∨ (0 ≤ bd ∧ bd < (e : Int)) ∧ me_bad S (A bd) (B bd) (T bd) (U bd) ∧ ∀ i, 0 ≤ i → i < (e : Int) → me_bad S (A i) (B i) (T i) (U i) → ¬ mm_lx (A i) (B i) (T i) (U i) (A bd) (B bd) (T bd) (U bd)) → jx_V D l (yX0_check.cls, cX0_check, 4, 0, [], 5, 0, 0, yX0_check.name) Po 42 [(60, n1, x), (0, 0, bd), (0, 0, (e : Int)), P3] [] (0, 0) g (M0) := by
        intro f
        induction f with
        | zero =>
          intro e bd P3 he k1
          refine jx_runL (o := jo_X0) (cs := cs_X0_check) (hf := jx_nh) jo_X0_ok hc_X0_check (jx_HK_nil rfl) (fun p => p == 130) 20 ?_
          simp only [jw, ju, jx_tg, Int.cast_ofNat_Int, Int.reduceAdd, Int.reduceToNat, Nat.reduceAdd, Nat.reduceMul, Nat.reduceBEq, Nat.reduceLeDiff, Int.reduceLE, Int.reduceLT, Int.reduceEq, Int.reduceNeg, Int.reduceSub, Int.reduceMul, not_false_eq_true, true_and, and_true, and_self, Bool.or_false, Bool.false_or, Bool.or_true, Bool.true_or, List.length_nil, List.length_cons, Nat.zero_le, or_true, true_or, Nat.le_refl, ↓reduceIte, Nat.reduceEqDiff, forall_const, false_and, and_false, false_implies, implies_true, not_true_eq_false, or_false, false_or, ne_eq, jd_X0_check, jd_X0_check_1, jf_X0, e23, js_X0_filledAt, js_X0_isAhead, js_X0_refuse, cs_X0_check, jx_ck_c]
          refine ⟨by omega, fun c => ?_, fun c => by omega⟩
          rcases k1 with ⟨k1, k2⟩ | ⟨k1, k2, k3⟩
          · rw [k1]
            refine jx_runL (o := jo_X0) (cs := cs_X0_check) (hf := jx_nh) jo_X0_ok hc_X0_check (jx_HK_nil rfl) (fun p => p == 185) 20 ?_
            simp only [jw, ju, jx_tg, Int.cast_ofNat_Int, Int.reduceAdd, Int.reduceToNat, Nat.reduceAdd, Nat.reduceMul, Nat.reduceBEq, Nat.reduceLeDiff, Int.reduceLE, Int.reduceLT, Int.reduceEq, Int.reduceNeg, Int.reduceSub, Int.reduceMul, not_false_eq_true, true_and, and_true, and_self, Bool.or_false, Bool.false_or, Bool.or_true, Bool.true_or, List.length_nil, List.length_cons, Nat.zero_le, or_true, true_or, Nat.le_refl, ↓reduceIte, Nat.reduceEqDiff, forall_const, false_and, and_false, false_implies, implies_true, not_true_eq_false, or_false, false_or, ne_eq, jd_X0_check, jd_X0_check_1, jf_X0, js_X0_filledAt, js_X0_isAhead, js_X0_refuse, cs_X0_check, jx_ck_c]
            refine at185 (fun ⟨a, b, t, d, w⟩ => ?_) _ _
            obtain ⟨i, i0, i1, rfl, rfl, rfl, rfl⟩ := badx a b t d w
            exact k2 i i0 (by omega) w
          · have lb : mm_lb S (A bd) (B bd) (T bd) (U bd) := ⟨k2, fun a b t d w => by
              obtain ⟨i, i0, i1, rfl, rfl, rfl, rfl⟩ := badx a b t d w
              exact k3 i i0 (by omega) w⟩
            have hk4 := hK2.1 ⟨_, _, _, _, k2⟩
            rw [mm_bq_eq lb] at hk4
            unfold mu_w4 at hk4
            refine jx_runL (o := jo_X0) (cs := cs_X0_check) (hf := jx_nh) jo_X0_ok hc_X0_check (jx_HK_nil rfl) (fun p => p == 185) 60 ?_
            simp only [jw, ju, jx_tg, Int.cast_ofNat_Int, Int.reduceAdd, Int.reduceToNat, Nat.reduceAdd, Nat.reduceMul, Nat.reduceBEq, Nat.reduceLeDiff, Int.reduceLE, Int.reduceLT, Int.reduceEq, Int.reduceNeg, Int.reduceSub, Int.reduceMul, not_false_eq_true, true_and, and_true, and_self, Bool.or_false, Bool.false_or, Bool.or_true, Bool.true_or, List.length_nil, List.length_cons, Nat.zero_le, or_true, true_or, Nat.le_refl, ↓reduceIte, Nat.reduceEqDiff, forall_const, false_and, and_false, false_implies, implies_true, not_true_eq_false, or_false, false_or, ne_eq, jd_X0_check, jd_X0_check_1, jf_X0, eA.1, eA.2.1, eA.2.2.1, eA.2.2.2, js_X0_filledAt, js_X0_isAhead, js_X0_refuse, cs_X0_check, jx_ck_c]
            refine ⟨by omega, fun c2 => by omega, fun c2 => ⟨by omega, by omega, by omega, by omega, hk4 _ _ (rR_wrong h9.2 hR (fun j h => by rw [jx_u_row h, jx_u_row h, jx_u_row h, jx_u_row h, sr j h]) (fun z i h => by rw [jx_u_a _ _ _ _ _ _ h, jx_u_a _ _ _ _ _ _ h, jx_u_a _ _ _ _ _ _ h, jx_u_a _ _ _ _ _ _ h, m0 z i h]) (fun i i0 i1 => ?_)) (rFr_u (rFr_u (rFr_u (rFr_u F0 (by omega)) (by omega)) (by omega)) (by omega))⟩⟩
            have a1 := m49 i i0 i1
            have a2 := su i i0 i1
            rcases (show i = 0 ∨ i = 1 ∨ i = 2 ∨ i = 3 ∨ (i ≠ 0 ∧ i ≠ 1 ∧ i ≠ 2 ∧ i ≠ 3) by omega) with rfl | rfl | rfl | rfl | d
            · simp (disch := omega) only [jx_u_j, jx_u_eq]
            · simp (disch := omega) only [jx_u_j, jx_u_eq]
            · simp (disch := omega) only [jx_u_j, jx_u_eq]
            · simp (disch := omega) only [jx_u_j, jx_u_eq]
            · simp (disch := omega) only [jx_u_j]
              rw [a1, a2]
        | succ f ih =>
          intro e bd P3 he k1
          obtain ⟨r1, r2, r3, r4⟩ := er e (by omega) (by omega)
          have fa := fr (A e) r1.1 r1.2
          have fb := fr (B e) r2.1 r2.2
          have be := bads e (by omega) (by omega)
          have pu : 0 ≤ S 0 27 * U e := Int.mul_nonneg hb.1 r4.1
          have pu2 : S 0 27 * U e ≤ 60 * 4 := Int.mul_le_mul hb.2 r4.2 r4.1 (by decide)
          refine jx_runL (o := jo_X0) (cs := cs_X0_check) (hf := jx_nh) jo_X0_ok hc_X0_check (jx_HK_nil rfl) (fun p => p == 42 || p == 104 || p == 130) 80 ?_
          simp only [jw, ju, jx_tg, Int.cast_ofNat_Int, Int.reduceAdd, Int.reduceToNat, Nat.reduceAdd, Nat.reduceMul, Nat.reduceBEq, Nat.reduceLeDiff, Int.reduceLE, Int.reduceLT, Int.reduceEq, Int.reduceNeg, Int.reduceSub, Int.reduceMul, not_false_eq_true, true_and, and_true, and_self, Bool.or_false, Bool.false_or, Bool.or_true, Bool.true_or, List.length_nil, List.length_cons, Nat.zero_le, or_true, true_or, Nat.le_refl, ↓reduceIte, Nat.reduceEqDiff, forall_const, false_and, and_false, false_implies, implies_true, not_true_eq_false, or_false, false_or, ne_eq, jd_X0_check, jd_X0_check_1, jf_X0, e23, e26, eA.1, eA.2.1, eA.2.2.1, eA.2.2.2, fa.1, fb.1, js_X0_filledAt, js_X0_isAhead, js_X0_refuse, cs_X0_check, jx_ck_c]
          have stay : ∀ P3 : jx_A, (me_bad S (A e) (B e) (T e) (U e) → 0 ≤ bd ∧ ¬ mm_lx (A e) (B e) (T e) (U e) (A bd) (B bd) (T bd) (U bd)) → jx_V D l (yX0_check.cls, cX0_check, 4, 0, [], 5, 0, 0, yX0_check.name) Po 42 [(60, n1, x), (0, 0, bd), (0, 0, (e : Int) + 1), P3] [] (0, 0) g (M0) := by
            intro P3 hst
            have := ih (e + 1) bd P3 (by omega) ?_
            · rw [show (((e + 1 : Nat) : Int)) = (e : Int) + 1 by omega] at this
              exact this
            · rcases k1 with ⟨k1, k2⟩ | ⟨k1, k2, k3⟩
              · refine .inl ⟨k1, fun i i0 i1 w => ?_⟩
                rcases (show i < (e : Int) ∨ i = e by omega) with z | z
                · exact k2 i i0 z w
                · rw [z] at w; have := (hst w).1; omega
              · refine .inr ⟨by omega, k2, fun i i0 i1 w => ?_⟩
                rcases (show i < (e : Int) ∨ i = e by omega) with z | z
                · exact k3 i i0 z w
                · rw [z] at w ⊢; exact (hst w).2
          have take : ∀ P3 : jx_A, me_bad S (A e) (B e) (T e) (U e) → (bd = -1 ∨ (0 ≤ bd ∧ mm_lx (A e) (B e) (T e) (U e) (A bd) (B bd) (T bd) (U bd))) → jx_V D l (yX0_check.cls, cX0_check, 4, 0, [], 5, 0, 0, yX0_check.name) Po 42 [(60, n1, x), (0, 0, (e : Int)), (0, 0, (e : Int) + 1), P3] [] (0, 0) g (M0) := by
            intro P3 hbd hor
            have := ih (e + 1) e P3 (by omega) (.inr ⟨by omega, hbd, fun i i0 i1 w => ?_⟩)
            · rw [show (((e + 1 : Nat) : Int)) = (e : Int) + 1 by omega] at this
              exact this
            · rcases (show i < (e : Int) ∨ i = e by omega) with z | z
              · rcases k1 with ⟨k1, k2⟩ | ⟨k1, k2, k3⟩
                · exact absurd w (k2 i i0 z)
                · rcases hor with h | h
                  · omega
                  · exact mm_lx_tr (k3 i i0 z w) h.2
              · rw [z]; unfold mm_lx; omega
          refine ⟨by omega, fun c => by omega, fun c => ⟨by omega, by omega, by omega, by omega, by omega, by omega, by omega, fun c2 => ?_, fun c2 => stay _ (fun w => absurd (be.mp w) c2)⟩⟩
          have hbe := be.mpr c2
          by_cases cb : bd = -1
          · refine jx_runL (o := jo_X0) (cs := cs_X0_check) (hf := jx_nh) jo_X0_ok hc_X0_check (jx_HK_nil rfl) (fun p => p == 42 || p == 109) 30 ?_
            simp only [jw, ju, jx_tg, Int.cast_ofNat_Int, Int.reduceAdd, Int.reduceToNat, Nat.reduceAdd, Nat.reduceMul, Nat.reduceBEq, Nat.reduceLeDiff, Int.reduceLE, Int.reduceLT, Int.reduceEq, Int.reduceNeg, Int.reduceSub, Int.reduceMul, not_false_eq_true, true_and, and_true, and_self, Bool.or_false, Bool.false_or, Bool.or_true, Bool.true_or, List.length_nil, List.length_cons, Nat.zero_le, or_true, true_or, Nat.le_refl, ↓reduceIte, Nat.reduceEqDiff, forall_const, false_and, and_false, false_implies, implies_true, not_true_eq_false, or_false, false_or, ne_eq, jd_X0_check, jd_X0_check_1, jf_X0, cb, js_X0_filledAt, js_X0_isAhead, js_X0_refuse, cs_X0_check, jx_ck_c]
            exact take _ hbe (.inl cb)
          · have hbd : 0 ≤ bd ∧ bd < (e : Int) := by rcases k1 with k1 | k1 <;> omega
            obtain ⟨s1, s2, s3, s4⟩ := er bd hbd.1 (by omega)
            refine jx_runL (o := jo_X0) (cs := cs_X0_check) (hf := jx_nh) jo_X0_ok hc_X0_check (jx_HK_nil rfl) (fun p => p == 42 || p == 118) 30 ?_
            simp only [jw, ju, jx_tg, Int.cast_ofNat_Int, Int.reduceAdd, Int.reduceToNat, Nat.reduceAdd, Nat.reduceMul, Nat.reduceBEq, Nat.reduceLeDiff, Int.reduceLE, Int.reduceLT, Int.reduceEq, Int.reduceNeg, Int.reduceSub, Int.reduceMul, not_false_eq_true, true_and, and_true, and_self, Bool.or_false, Bool.false_or, Bool.or_true, Bool.true_or, List.length_nil, List.length_cons, Nat.zero_le, or_true, true_or, Nat.le_refl, ↓reduceIte, Nat.reduceEqDiff, forall_const, false_and, and_false, false_implies, implies_true, not_true_eq_false, or_false, false_or, ne_eq, jd_X0_check, jd_X0_check_1, jf_X0, eA.1, eA.2.1, eA.2.2.1, eA.2.2.2, js_X0_filledAt, js_X0_isAhead, js_X0_refuse, cs_X0_check, jx_ck_c]
            refine ⟨by omega, fun c3 => absurd c3 cb, fun c3 => ⟨⟨by omega, by omega, ⟨⟨by omega, by omega⟩, ⟨by omega, by omega⟩, ⟨by omega, by omega⟩, by omega, by omega⟩, ⟨by omega, by omega⟩, ⟨by omega, by omega⟩, ⟨by omega, by omega⟩, by omega, by omega⟩, fun c4 => ?_, fun c4 => stay _ (fun _ => ⟨hbd.1, c4⟩)⟩⟩
            refine jx_runL (o := jo_X0) (cs := cs_X0_check) (hf := jx_nh) jo_X0_ok hc_X0_check (jx_HK_nil rfl) (fun p => p == 42) 20 ?_
            simp only [jw, ju, jx_tg, Int.cast_ofNat_Int, Int.reduceAdd, Int.reduceToNat, Nat.reduceAdd, Nat.reduceMul, Nat.reduceBEq, Nat.reduceLeDiff, Int.reduceLE, Int.reduceLT, Int.reduceEq, Int.reduceNeg, Int.reduceSub, Int.reduceMul, not_false_eq_true, true_and, and_true, and_self, Bool.or_false, Bool.false_or, Bool.or_true, Bool.true_or, List.length_nil, List.length_cons, Nat.zero_le, or_true, true_or, Nat.le_refl, ↓reduceIte, Nat.reduceEqDiff, forall_const, false_and, and_false, false_implies, implies_true, not_true_eq_false, or_false, false_or, ne_eq, jd_X0_check, jd_X0_check_1, jf_X0, js_X0_filledAt, js_X0_isAhead, js_X0_refuse, cs_X0_check, jx_ck_c]
            exact take _ hbe (.inr ⟨hbd.1, c4⟩)
      refine jx_runL (o := jo_X0) (cs := cs_X0_check) (hf := jx_nh) jo_X0_ok hc_X0_check (jx_HK_nil rfl) (fun p => p == 42) 120 ?_
      simp only [jw, ju, jx_tg, Int.cast_ofNat_Int, Int.reduceAdd, Int.reduceToNat, Nat.reduceAdd, Nat.reduceMul, Nat.reduceBEq, Nat.reduceLeDiff, Int.reduceLE, Int.reduceLT, Int.reduceEq, Int.reduceNeg, Int.reduceSub, Int.reduceMul, not_false_eq_true, true_and, and_true, and_self, Bool.or_false, Bool.false_or, Bool.or_true, Bool.true_or, List.length_nil, List.length_cons, Nat.zero_le, or_true, true_or, Nat.le_refl, ↓reduceIte, Nat.reduceEqDiff, forall_const, false_and, and_false, false_implies, implies_true, not_true_eq_false, or_false, false_or, ne_eq, jd_X0_check, jd_X0_check_1, jf_X0, l1, js_X0_filledAt, js_X0_isAhead, js_X0_refuse, cs_X0_check, jx_ck_c]
      rw [← hM0]
      exact scan (M x 23).toNat 0 (-1) _ (by omega) (.inl ⟨rfl, fun i i0 i1 => by omega⟩)
  · exact hS.elim
