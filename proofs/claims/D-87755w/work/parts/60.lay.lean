/-! LoopLane: layOut, lay, prove -/
set_option maxRecDepth 100000
/-- the count of trials, and scratch -/
theorem rR_tr {x tr : Int} {S : jx_M} {g : jx_S} {M M' : jx_M} (h9 : S 0 9 ≤ 16) (hR : rR x S g M) (hM : ∀ z k, ¬ (x + 33 ≤ z ∧ z ≤ x + 36) → ¬ (z = x ∧ (k = 30 ∨ k = 34 ∨ k = 35)) → M' z k = M z k) (ht : M' x 34 = tr) : rR x (jx_u S 0 32 tr) g M' := by
  have x0 := hR.1.1
  have z : mZ S (jx_u S 0 32 tr) := mZ_0 mZ_rf (by decide)
  have s0 : ∀ k, k ≠ 32 → jx_u S 0 32 tr 0 k = S 0 k := fun k h => jx_u_j _ _ _ _ _ _ h
  have sr : ∀ j, j ≠ 0 → jx_u S 0 32 tr j = S j := fun j h => jx_u_row h
  refine ⟨hR.1, rBd_c (by rw [s0 _ (by decide)]; exact h9) (rBd_Z z hR.2.1) (fun z k w => hM z k (by unfold qBd at w; omega) (by unfold qBd at w; omega)), rEd_c (rEd_Z z hR.2.2.1) (fun z k w => hM z k (by unfold qEd at w; omega) (by unfold qEd at w; omega)), ?_, ?_, ?_, ?_⟩
  · exact rLd_S (rLd_c hR.2.2.2.1 (fun z k w => hM z k (by unfold qLd at w; omega) (by unfold qLd at w; omega))) (s0 _ (by decide)) (s0 _ (by decide)) (sr _ (by decide)) (sr _ (by decide)) (sr _ (by decide))
  · exact rRs_S (rRs_c hR.2.2.2.2.1 (fun z k w => hM z k (by unfold qRs at w; omega) (by unfold qRs at w; omega))) (fun k _ _ => s0 k (by omega)) (s0 _ (by decide)) (sr _ (by decide))
  · obtain ⟨m1, m2, m3, m4, m5⟩ := hR.2.2.2.2.2.1
    exact ⟨by rw [jx_u_eq]; exact ht, by rw [hM _ _ (by omega) (by omega), s0 _ (by decide)]; exact m2, fun k k0 k1 => by rw [hM _ _ (by omega) (by omega), sr 23 (by decide)]; exact m3 k k0 k1, fun k k0 k1 => by rw [hM _ _ (by omega) (by omega), sr 31 (by decide)]; exact m4 k k0 k1, fun k k0 k1 => by rw [hM _ _ (by omega) (by omega)]; exact m5 k k0 k1⟩
  · exact rSl_S (rSl_c hR.2.2.2.2.2.2 (fun z k w => hM z k (by unfold qSl at w; omega) (by unfold qSl at w; omega))) (sr _ (by decide)) (sr _ (by decide)) (sr _ (by decide))
def xTf (x : Int) (M M' : jx_M) : Prop := ∀ z k : Int, ¬ (x + 33 ≤ z ∧ z ≤ x + 36) → ¬ (z = x ∧ (k = 30 ∨ k = 34 ∨ k = 35)) → M' z k = M z k
theorem xTf_F {x : Int} {g : jx_S} {M M' : jx_M} (h : xTf x M M') : rFr x g M g M' := ⟨rG_rf, fun z i w => h z i (by omega) (by omega)⟩
def js_X0_prove : jx_Sp := fun as g M Po => match as with
  | [(60, _, x), (0, _, b)] => ∃ S, (rR x S g M ∧ mW S ∧ jx_r b) ∧ rK x g M Po 0 (f_prove b S).1 (f_prove b S).2
  | _ => False
def cs_X0_prove : jx_Cs := [(780, 1, 0, 0, js_X0_isWhole), (354, 2, 0, 0, js_X0_hasUnits), (366, 4, 0, 0, js_X0_findWays), (1371, 2, 0, 0, js_X0_search), (1161, 2, 0, 0, js_X0_refuse)]
theorem hc_X0_prove {D : jx_D} {l : Launch} : jx_CsOK D l "LoopLane" 23 cs_X0_prove := List.forall_mem_cons.mpr ⟨jc_X0_260 (jt_X0_isWhole l) (fun as g M Po (h : js_X0_isWhole as g M Po) => by unfold js_X0_isWhole at h; split at h <;> first | exact h.elim | exact ⟨_, _, _, rfl, rfl⟩) (by decide), List.forall_mem_cons.mpr ⟨jc_X0_118 (jt_X0_hasUnits l) (fun as g M Po (h : js_X0_hasUnits as g M Po) => by unfold js_X0_hasUnits at h; split at h <;> first | exact h.elim | exact ⟨_, _, _, rfl, rfl⟩) (by decide), List.forall_mem_cons.mpr ⟨jc_X0_122 (jt_X0_findWays l) (fun as g M Po (h : js_X0_findWays as g M Po) => by unfold js_X0_findWays at h; split at h <;> first | exact h.elim | exact ⟨_, _, _, rfl, rfl⟩) (by decide), List.forall_mem_cons.mpr ⟨jc_X0_457 (jt_X0_search l) (fun as g M Po (h : js_X0_search as g M Po) => by unfold js_X0_search at h; split at h <;> first | exact h.elim | exact ⟨_, _, _, rfl, rfl⟩) (by decide), List.forall_mem_cons.mpr ⟨jc_X0_387 (jt_X0_refuse l) (fun as g M Po (h : js_X0_refuse as g M Po) => by unfold js_X0_refuse at h; split at h <;> first | exact h.elim | exact ⟨_, _, _, rfl, rfl⟩) (by decide), fun _ h => absurd h List.not_mem_nil⟩⟩⟩⟩⟩
set_option maxHeartbeats 4000000 in
theorem jt_X0_prove (l : Launch) : jx_Ct l yX0_prove (ws_ yX0_prove cX0_prove 2 (some .int)) 23 0 0 js_X0_prove := by
  refine jx_Ct_c (rc := 0) (by decide) rfl (fun D as g M Po hS => ?_)
  unfold js_X0_prove at hS
  split at hS
  · rename_i n1 x n2 b
    obtain ⟨S, ⟨hR, hW, rb⟩, hK⟩ := hS
    have hB := hW.1
    have h9 := hB.1
    have x0 := hR.1.1
    have r5 := hR.2.1.1
    unfold f_prove mm_ready at hK
    simp only [rK_ite] at hK
    refine ⟨Nat.le_of_ble_eq_true rfl, ?_⟩
    obtain ⟨M0, hM0⟩ : ∃ q, q = jx_u M x 34 0 := ⟨_, rfl⟩
    have f0 : xTf x M M0 := fun z k _ h => by rw [hM0]; exact if_neg (by omega)
    have e34 : M0 x 34 = 0 := by rw [hM0, jx_u_eq]
    have R0 := rR_tr h9.2 hR f0 e34
    have rb0 : rBd x S g M0 := rBd_c h9.2 hR.2.1 (fun z k w => f0 z k (by unfold qBd at w; omega) (by unfold qBd at w; omega))
    have re0 : rEd x S M0 := rEd_c hR.2.2.1 (fun z k w => f0 z k (by unfold qEd at w; omega) (by unfold qEd at w; omega))
    have h90 : jx_u S 0 32 0 0 9 ≤ 16 := by rw [jx_u_j _ _ _ _ _ _ (by decide)]; exact h9.2
    have no : ∀ w, -11 ≤ w → w ≤ -1 → rK x g M Po 0 w (mu_no (jx_u S 0 32 0) 0 w) → Po (0, 0, w) g (xu_refuse M0 x w) := fun w h1 h2 hk => rK_no h90 ⟨h1, h2⟩ R0 (xTf_F f0) hk
    have at19 : ¬ (0 < S 0 9 ∧ mm_whole S) → jx_V D l (yX0_prove.cls, cX0_prove, 2, 0, [], 23, 0, 0, yX0_prove.name) Po 19 [(60, n1, x), (0, n2, b)] [] (0, 0) g (M0) := by
      intro c
      refine jx_runL (o := jo_X0) (cs := cs_X0_prove) (hf := jx_nh) jo_X0_ok hc_X0_prove (jx_HK_nil rfl) (fun _ => false) 20 ?_
      simp only [jw, ju, jx_tg, Int.cast_ofNat_Int, Int.reduceAdd, Int.reduceToNat, Nat.reduceAdd, Nat.reduceMul, Nat.reduceBEq, Nat.reduceLeDiff, Int.reduceLE, Int.reduceLT, Int.reduceEq, Int.reduceNeg, Int.reduceSub, Int.reduceMul, not_false_eq_true, true_and, and_true, and_self, Bool.or_false, Bool.false_or, Bool.or_true, Bool.true_or, List.length_nil, List.length_cons, Nat.zero_le, or_true, true_or, Nat.le_refl, ↓reduceIte, Nat.reduceEqDiff, forall_const, false_and, and_false, false_implies, implies_true, not_true_eq_false, or_false, false_or, ne_eq, jd_X0_prove, jf_X0, js_X0_findWays, js_X0_hasUnits, js_X0_isWhole, js_X0_refuse, js_X0_search, cs_X0_prove, jx_ck_c]
      exact no _ (by decide) (by decide) (hK.2 c)
    have at53 : (0 < S 0 9 ∧ mm_whole S) → (1 ≤ b ∧ b ≤ 60) → jx_V D l (yX0_prove.cls, cX0_prove, 2, 0, [], 23, 0, 0, yX0_prove.name) Po 53 [(60, n1, x), (0, n2, b)] [] (0, 0) g (M0) := by
      intro c hb
      have hK2 := ((hK.1 c).2 (by omega)).1 hb
      have byu := mm_byU_le h9 hB.2.2.2.2.2 hb
      refine jx_runL (o := jo_X0) (cs := cs_X0_prove) (hf := jx_nh) jo_X0_ok hc_X0_prove (jx_HK_nil rfl) (fun p => p == 63) 40 ?_
      simp only [jw, ju, jx_tg, Int.cast_ofNat_Int, Int.reduceAdd, Int.reduceToNat, Nat.reduceAdd, Nat.reduceMul, Nat.reduceBEq, Nat.reduceLeDiff, Int.reduceLE, Int.reduceLT, Int.reduceEq, Int.reduceNeg, Int.reduceSub, Int.reduceMul, not_false_eq_true, true_and, and_true, and_self, Bool.or_false, Bool.false_or, Bool.or_true, Bool.true_or, List.length_nil, List.length_cons, Nat.zero_le, or_true, true_or, Nat.le_refl, ↓reduceIte, Nat.reduceEqDiff, forall_const, false_and, and_false, false_implies, implies_true, not_true_eq_false, or_false, false_or, ne_eq, jd_X0_prove, jf_X0, js_X0_findWays, js_X0_hasUnits, js_X0_isWhole, js_X0_refuse, js_X0_search, cs_X0_prove, jx_ck_c]
      refine ⟨S, ⟨x0, rb0, hB, hb⟩, fun c2 => ?_, fun c2 => hK2.2 (fun z => c2 (byu.mp z)) _ _ R0 (xTf_F f0)⟩
      have hK3 := hK2.1 (byu.mpr c2)
      refine jx_runL (o := jo_X0) (cs := cs_X0_prove) (hf := jx_nh) jo_X0_ok hc_X0_prove (jx_HK_nil rfl) (fun p => p == 78) 40 ?_
      simp only [jw, ju, jx_tg, Int.cast_ofNat_Int, Int.reduceAdd, Int.reduceToNat, Nat.reduceAdd, Nat.reduceMul, Nat.reduceBEq, Nat.reduceLeDiff, Int.reduceLE, Int.reduceLT, Int.reduceEq, Int.reduceNeg, Int.reduceSub, Int.reduceMul, not_false_eq_true, true_and, and_true, and_self, Bool.or_false, Bool.false_or, Bool.or_true, Bool.true_or, List.length_nil, List.length_cons, Nat.zero_le, or_true, true_or, Nat.le_refl, ↓reduceIte, Nat.reduceEqDiff, forall_const, false_and, and_false, false_implies, implies_true, not_true_eq_false, or_false, false_or, ne_eq, jd_X0_prove, jf_X0, rb0.1, js_X0_findWays, js_X0_hasUnits, js_X0_isWhole, js_X0_refuse, js_X0_search, cs_X0_prove, jx_ck_c]
      have hfw : ((0 ≤ S 0 9 ∧ S 0 9 ≤ 16) ∧ (1 ≤ b ∧ b ≤ 60) ∧ (0 ≤ M0 x 23 ∧ M0 x 23 ≤ 900) ∧ mm_EO (me_all S) (M0 (x + 26)) (M0 (x + 27)) (M0 (x + 28)) (M0 (x + 29)) (M0 x 23) ∧ xf_E (me_all S)) := ⟨h9, hb, rEd_23 hB re0, re0.2.2, xf_E_all hB⟩
      refine ⟨me_all S, hfw, fun r M1 k1 hr => ?_⟩
      rw [xf_wt_0] at hr
      have f1 : xTf x M M1 := fun z k q1 q2 => (k1 z k (by omega)).trans (f0 z k q1 q2)
      have e34' : M1 x 34 = 0 := by rw [k1 _ _ (by omega)]; exact e34
      rcases hr with ⟨rfl, hI⟩ | ⟨rfl, hno⟩
      · refine ⟨by decide, fun _ => ?_, fun z => absurd z (by decide)⟩
        have n9 : ((S 0 9).toNat : Int) = S 0 9 := by omega
        have hl := xf_least (n := (S 0 9).toNat) (fun a b t d h => ⟨(xf_E_all hB a b t d h).1.1, (xf_E_all hB a b t d h).2.1.1⟩) (by rw [n9]; exact hI)
        rw [n9] at hl
        have hK4 := hK3.1 ⟨_, hl.1⟩
        obtain ⟨M2, hM2⟩ : ∃ q, q = jx_u M1 x 35 0 := ⟨_, rfl⟩
        have f2 : xTf x M M2 := fun z k q1 q2 => by rw [hM2, show jx_u M1 x 35 0 z k = M1 z k from if_neg (by omega)]; exact f1 z k q1 q2
        have g34 : M2 x 34 = 0 := by rw [hM2, jx_u_j _ _ _ _ _ _ (by decide)]; exact e34'
        have g35 : M2 x 35 = 0 := by rw [hM2, jx_u_eq]
        have rb2 : rBd x S g M2 := rBd_c h9.2 hR.2.1 (fun z k w => f2 z k (by unfold qBd at w; omega) (by unfold qBd at w; omega))
        have re2 : rEd x S M2 := rEd_c hR.2.2.1 (fun z k w => f2 z k (by unfold qEd at w; omega) (by unfold qEd at w; omega))
        refine jx_runL (o := jo_X0) (cs := cs_X0_prove) (hf := jx_nh) jo_X0_ok hc_X0_prove (jx_HK_nil rfl) (fun p => p == 83) 20 ?_
        simp only [jw, ju, jx_tg, Int.cast_ofNat_Int, Int.reduceAdd, Int.reduceToNat, Nat.reduceAdd, Nat.reduceMul, Nat.reduceBEq, Nat.reduceLeDiff, Int.reduceLE, Int.reduceLT, Int.reduceEq, Int.reduceNeg, Int.reduceSub, Int.reduceMul, not_false_eq_true, true_and, and_true, and_self, Bool.or_false, Bool.false_or, Bool.or_true, Bool.true_or, List.length_nil, List.length_cons, Nat.zero_le, or_true, true_or, Nat.le_refl, ↓reduceIte, Nat.reduceEqDiff, forall_const, false_and, and_false, false_implies, implies_true, not_true_eq_false, or_false, false_or, ne_eq, jd_X0_prove, jf_X0, js_X0_findWays, js_X0_hasUnits, js_X0_isWhole, js_X0_refuse, js_X0_search, cs_X0_prove, jx_ck_c]
        rw [← hM2]
        refine jx_runL (o := jo_X0) (cs := cs_X0_prove) (hf := jx_nh) jo_X0_ok hc_X0_prove (jx_HK_nil rfl) (fun p => p == 107) 40 ?_
        simp only [jw, ju, jx_tg, Int.cast_ofNat_Int, Int.reduceAdd, Int.reduceToNat, Nat.reduceAdd, Nat.reduceMul, Nat.reduceBEq, Nat.reduceLeDiff, Int.reduceLE, Int.reduceLT, Int.reduceEq, Int.reduceNeg, Int.reduceSub, Int.reduceMul, not_false_eq_true, true_and, and_true, and_self, Bool.or_false, Bool.false_or, Bool.or_true, Bool.true_or, List.length_nil, List.length_cons, Nat.zero_le, or_true, true_or, Nat.le_refl, ↓reduceIte, Nat.reduceEqDiff, forall_const, false_and, and_false, false_implies, implies_true, not_true_eq_false, or_false, false_or, ne_eq, jd_X0_prove, jf_X0, g34, g35, js_X0_findWays, js_X0_hasUnits, js_X0_isWhole, js_X0_refuse, js_X0_search, cs_X0_prove, jx_ck_c]
        refine ⟨S, ⟨x0, rb2, re2, hB, by omega, hb⟩, fun M3 F s1 s2 s3 s4 s5 s6 s7 s8 => ?_, fun M3 s1 s2 s3 s4 => ?_⟩
        · refine jx_runL (o := jo_X0) (cs := cs_X0_prove) (hf := jx_nh) jo_X0_ok hc_X0_prove (jx_HK_nil rfl) (fun _ => false) 20 ?_
          simp only [jw, ju, jx_tg, Int.cast_ofNat_Int, Int.reduceAdd, Int.reduceToNat, Nat.reduceAdd, Nat.reduceMul, Nat.reduceBEq, Nat.reduceLeDiff, Int.reduceLE, Int.reduceLT, Int.reduceEq, Int.reduceNeg, Int.reduceSub, Int.reduceMul, not_false_eq_true, true_and, and_true, and_self, Bool.or_false, Bool.false_or, Bool.or_true, Bool.true_or, List.length_nil, List.length_cons, Nat.zero_le, or_true, true_or, Nat.le_refl, ↓reduceIte, Nat.reduceEqDiff, forall_const, false_and, and_false, false_implies, implies_true, not_true_eq_false, or_false, false_or, ne_eq, jd_X0_prove, jf_X0, js_X0_findWays, js_X0_hasUnits, js_X0_isWhole, js_X0_refuse, js_X0_search, cs_X0_prove, jx_ck_c]
          rw [s4] at hK4
          exact hK4 _ _ (rR_tr h9.2 hR (fun z k q1 q2 => (s1 z k (by omega) (by omega) (by omega) (by omega) q2).trans (f2 z k q1 q2)) s3) ⟨rG_rf, fun z i w => (s1 z i (by omega) (by omega) (by omega) (by omega) (by omega)).trans (f2 z i (by omega) (by omega))⟩
        · have fin : ∀ r, (ms_go S b 61000 0 (fun _ => 0) 0).1 = r → Po (0, 0, r) g M3 := fun r hr => by
            rw [hr] at hK4
            exact hK4 _ _ (rR_tr h9.2 hR (fun z k q1 q2 => (s1 z k (by omega) (by omega) (by omega) (by omega) q2).trans (f2 z k q1 q2)) s3) ⟨rG_rf, fun z i w => (s1 z i (by omega) (by omega) (by omega) (by omega) (by omega)).trans (f2 z i (by omega) (by omega))⟩
          rcases s4 with ⟨s4, s5⟩ | ⟨s4, s5⟩
          · rw [s5]
            refine ⟨by decide, fun _ => ?_, fun z => absurd rfl z⟩
            refine jx_runL (o := jo_X0) (cs := cs_X0_prove) (hf := jx_nh) jo_X0_ok hc_X0_prove (jx_HK_nil rfl) (fun _ => false) 20 ?_
            simp only [jw, ju, jx_tg, Int.cast_ofNat_Int, Int.reduceAdd, Int.reduceToNat, Nat.reduceAdd, Nat.reduceMul, Nat.reduceBEq, Nat.reduceLeDiff, Int.reduceLE, Int.reduceLT, Int.reduceEq, Int.reduceNeg, Int.reduceSub, Int.reduceMul, not_false_eq_true, true_and, and_true, and_self, Bool.or_false, Bool.false_or, Bool.or_true, Bool.true_or, List.length_nil, List.length_cons, Nat.zero_le, or_true, true_or, Nat.le_refl, ↓reduceIte, Nat.reduceEqDiff, forall_const, false_and, and_false, false_implies, implies_true, not_true_eq_false, or_false, false_or, ne_eq, jd_X0_prove, jf_X0, js_X0_findWays, js_X0_hasUnits, js_X0_isWhole, js_X0_refuse, js_X0_search, cs_X0_prove, jx_ck_c]
            exact fin 3 s4
          · rw [s5]
            refine ⟨by decide, fun z => absurd z (by decide), fun _ => ?_⟩
            refine jx_runL (o := jo_X0) (cs := cs_X0_prove) (hf := jx_nh) jo_X0_ok hc_X0_prove (jx_HK_nil rfl) (fun _ => false) 20 ?_
            simp only [jw, ju, jx_tg, Int.cast_ofNat_Int, Int.reduceAdd, Int.reduceToNat, Nat.reduceAdd, Nat.reduceMul, Nat.reduceBEq, Nat.reduceLeDiff, Int.reduceLE, Int.reduceLT, Int.reduceEq, Int.reduceNeg, Int.reduceSub, Int.reduceMul, not_false_eq_true, true_and, and_true, and_self, Bool.or_false, Bool.false_or, Bool.or_true, Bool.true_or, List.length_nil, List.length_cons, Nat.zero_le, or_true, true_or, Nat.le_refl, ↓reduceIte, Nat.reduceEqDiff, forall_const, false_and, and_false, false_implies, implies_true, not_true_eq_false, or_false, false_or, ne_eq, jd_X0_prove, jf_X0, js_X0_findWays, js_X0_hasUnits, js_X0_isWhole, js_X0_refuse, js_X0_search, cs_X0_prove, jx_ck_c]
            exact fin 4 s4
      · refine ⟨by decide, fun z => absurd rfl z, fun _ => hK3.2 (fun ⟨f, hf⟩ => hno ⟨f, hf⟩) _ _ (rR_tr h9.2 hR f1 e34') (xTf_F f1)⟩
    refine jx_runL (o := jo_X0) (cs := cs_X0_prove) (hf := jx_nh) jo_X0_ok hc_X0_prove (jx_HK_nil rfl) (fun p => p == 5) 20 ?_
    simp only [jw, ju, jx_tg, Int.cast_ofNat_Int, Int.reduceAdd, Int.reduceToNat, Nat.reduceAdd, Nat.reduceMul, Nat.reduceBEq, Nat.reduceLeDiff, Int.reduceLE, Int.reduceLT, Int.reduceEq, Int.reduceNeg, Int.reduceSub, Int.reduceMul, not_false_eq_true, true_and, and_true, and_self, Bool.or_false, Bool.false_or, Bool.or_true, Bool.true_or, List.length_nil, List.length_cons, Nat.zero_le, or_true, true_or, Nat.le_refl, ↓reduceIte, Nat.reduceEqDiff, forall_const, false_and, and_false, false_implies, implies_true, not_true_eq_false, or_false, false_or, ne_eq, jd_X0_prove, jf_X0, js_X0_findWays, js_X0_hasUnits, js_X0_isWhole, js_X0_refuse, js_X0_search, cs_X0_prove, jx_ck_c]
    rw [← hM0]
    refine jx_runL (o := jo_X0) (cs := cs_X0_prove) (hf := jx_nh) jo_X0_ok hc_X0_prove (jx_HK_nil rfl) (fun p => p == 19 || p == 53) 60 ?_
    simp only [jw, ju, jx_tg, Int.cast_ofNat_Int, Int.reduceAdd, Int.reduceToNat, Nat.reduceAdd, Nat.reduceMul, Nat.reduceBEq, Nat.reduceLeDiff, Int.reduceLE, Int.reduceLT, Int.reduceEq, Int.reduceNeg, Int.reduceSub, Int.reduceMul, not_false_eq_true, true_and, and_true, and_self, Bool.or_false, Bool.false_or, Bool.or_true, Bool.true_or, List.length_nil, List.length_cons, Nat.zero_le, or_true, true_or, Nat.le_refl, ↓reduceIte, Nat.reduceEqDiff, forall_const, false_and, and_false, false_implies, implies_true, not_true_eq_false, or_false, false_or, ne_eq, jd_X0_prove, jf_X0, rb0.1, js_X0_findWays, js_X0_hasUnits, js_X0_isWhole, js_X0_refuse, js_X0_search, cs_X0_prove, jx_ck_c]
    refine ⟨by omega, fun c => at19 (by omega), fun c => ⟨S, ⟨x0, rb0, hB⟩, fun c2 => ⟨rb, fun c3 => ⟨rb, fun c4 => ?_, fun c4 => ?_⟩, fun c3 => ⟨rb, fun c4 => at53 ⟨by omega, c2⟩ (by omega), fun c4 => ⟨rb, fun c5 => ?_, fun c5 => by omega⟩⟩⟩, fun c2 => at19 (fun z => c2 z.2)⟩⟩
    · exact no _ (by decide) (by decide) (((hK.1 ⟨by omega, c2⟩).2 (by omega)).2 (by omega))
    · exact no _ (by decide) (by decide) ((hK.1 ⟨by omega, c2⟩).1 (by omega))
    · exact no _ (by decide) (by decide) (((hK.1 ⟨by omega, c2⟩).2 (by omega)).2 (by omega))
  · exact hS.elim
