/-! LoopLane: run, needRun -/
set_option maxRecDepth 100000
noncomputable def xRun (n lb : Int) (S : jx_M) : jx_M := @ite _ (lb ≠ 0 ∧ mm_max (S 25) (S 0 9).toNat + 1 ≤ n) (Classical.propDecidable _) (mu_laid n S) (mp_go n 4000 0 0 S)
noncomputable def xRl (n lb : Int) (S : jx_M) : Int := @ite _ (lb ≠ 0 ∧ mm_max (S 25) (S 0 9).toNat + 1 ≤ n) (Classical.propDecidable _) 1 0
def xEn (r : Int) (S Q M' : jx_M) (m : Int) : Prop := ∀ a, 0 ≤ a → a < m → M' (r + 1) a = if 0 < Q 0 44 then Q 32 (16 * (Q 0 44 - 1) + a) else S 8 a
theorem xE_r1 {x r lb k v : Int} {S : jx_M} {g g' : jx_S} {M Q M' : jx_M} (hr : xr3 x r) (h : xE x r lb S g M Q g' M') : xE x r lb S g M Q g' (jx_u M' (r + 1) k v) := by
  obtain ⟨h1, ⟨i1, i2, i3, i4, i5⟩, h3, h4⟩ := h
  unfold xr3 at hr
  refine ⟨h1, ⟨i1, fun w i a b c d => ?_, rSl_c i3 (fun w i q => jx_u_a _ _ _ _ _ _ (by unfold qSl at q; omega)), ?_, fun i i0 i1 i5' => ?_⟩, h3, fun c a a0 a1 => ?_⟩
  · rw [jx_u_a _ _ _ _ _ _ c]; exact i2 w i a b c d
  · rw [jx_u_a _ _ _ _ _ _ (by omega)]; exact i4
  · rw [jx_u_a _ _ _ _ _ _ (by omega)]; exact i5 i i0 i1 i5'
  · rw [jx_u_a _ _ _ _ _ _ (by omega)]; exact h4 c a a0 a1
def js_X0_run_2 : jx_Sp := fun as g M Po => match as with
  | [(60, _, x), (63, _, r), (0, _, n), (0, _, lb)] => ∃ S, (xB x S g M ∧ rSl x S g M ∧ rLd x S M ∧ mW S ∧ mV S ∧ xr3 x r ∧ (0 ≤ n ∧ n ≤ 200) ∧ xZ S ∧ jx_r lb ∧ (lb ≠ 0 → S 0 27 ≠ 0)) ∧ ∀ g' M', xE x r (xRl n lb S) S g M (xRun n lb S) g' M' → xEn r S (xRun n lb S) M' (S 0 9) → Po (3, 0, 0) g' M'
  | _ => False
def cs_X0_run_2 : jx_Cs := [(741, 1, 0, 0, js_X0_mostStages), (750, 3, 48, 32000, js_X0_runLaid), (762, 3, 3, 2000, js_X0_runPlain)]
theorem hc_X0_run_2 {D : jx_D} {l : Launch} : jx_CsOK D l "LoopLane" 5 cs_X0_run_2 := List.forall_mem_cons.mpr ⟨jc_X0_247 (jt_X0_mostStages l) (fun as g M Po (h : js_X0_mostStages as g M Po) => by unfold js_X0_mostStages at h; split at h <;> first | exact h.elim | exact ⟨_, _, _, rfl, rfl⟩) (by decide), List.forall_mem_cons.mpr ⟨jc_X0_250 (jt_X0_runLaid l) (fun as g M Po (h : js_X0_runLaid as g M Po) => by unfold js_X0_runLaid at h; split at h <;> first | exact h.elim | exact ⟨_, _, _, rfl, rfl⟩) (by decide), List.forall_mem_cons.mpr ⟨jc_X0_254 (jt_X0_runPlain l) (fun as g M Po (h : js_X0_runPlain as g M Po) => by unfold js_X0_runPlain at h; split at h <;> first | exact h.elim | exact ⟨_, _, _, rfl, rfl⟩) (by decide), fun _ h => absurd h List.not_mem_nil⟩⟩⟩
set_option maxHeartbeats 4000000 in
theorem jt_X0_run_2 (l : Launch) : jx_Ct l yX0_run_2 (ws_ yX0_run_2 cX0_run_2 5 none) 5 48 32000 js_X0_run_2 := by
  refine jx_Ct_c (rc := 3) (by decide) rfl (fun D as g M Po hS => ?_)
  unfold js_X0_run_2 at hS
  split at hS
  · rename_i n1 x n2 r n3 n n4 lb
    obtain ⟨S, ⟨hB, hl, hL, hW, hV, hr, hn, hz, rl, hlb⟩, hP⟩ := hS
    have x0 := hB.1.1
    have h9 := hB.2.2.1.1
    have r5 := hB.2.1.1
    refine ⟨Nat.le_of_ble_eq_true rfl, ?_⟩
    have at27 : ∀ (u1 u2 : Nat) (g' : jx_S) (M' : jx_M), xE x r (xRl n lb S) S g M (xRun n lb S) g' M' → jx_V D l (yX0_run_2.cls, cX0_run_2, 5, 3, [], 5, 48, 32000, yX0_run_2.name) Po 27 [(60, n1, x), (63, n2, r), (0, n3, n), (0, n4, lb), (5, 0, 0)] [] (u1, u2) (g') (M') := by
      intro u1 u2 g' M' hE
      generalize xRun n lb S = Q at *
      generalize xRl n lb S = lq at *
      have loop : ∀ (f k : Nat) (M' : jx_M), (k : Int) + f = S 0 9 → xE x r lq S g M Q g' M' → xEn r S Q M' k → jx_V D l (yX0_run_2.cls, cX0_run_2, 5, 3, [], 5, 48, 32000, yX0_run_2.name) Po 30 [(60, n1, x), (63, n2, r), (0, n3, n), (0, n4, lb), (0, 0, (k : Int))] [] (u1, u2) (g') (M') := by
        intro f
        induction f with
        | zero =>
          intro k M' hk hE hk2
          have hC := xI_C hB hr hE.1 hE.2.1
          have e9 : M' x 5 = S 0 9 := by rw [hC.2.1.1]; exact hE.2.1.1.2 9 (by decide)
          have fin := hP g' M' hE (by rw [← hk]; intro a a0 a1; exact hk2 a a0 (by omega))
          refine jx_runL (o := jo_X0) (cs := cs_X0_run_2) (hf := jx_nh) jo_X0_ok hc_X0_run_2 (jx_HK_nil rfl) (fun p => p == 39) 20 ?_
          simp only [jw, ju, jx_tg, Int.cast_ofNat_Int, Int.reduceAdd, Int.reduceToNat, Nat.reduceAdd, Nat.reduceMul, Nat.reduceBEq, Nat.reduceLeDiff, Int.reduceLE, Int.reduceLT, Int.reduceEq, Int.reduceNeg, Int.reduceSub, Int.reduceMul, not_false_eq_true, true_and, and_true, and_self, Bool.or_false, Bool.false_or, Bool.or_true, Bool.true_or, List.length_nil, List.length_cons, Nat.zero_le, or_true, true_or, Nat.le_refl, ↓reduceIte, Nat.reduceEqDiff, forall_const, false_and, and_false, false_implies, implies_true, not_true_eq_false, or_false, false_or, ne_eq, jd_X0_run_2, jf_X0, e9, js_X0_mostStages, js_X0_runLaid, js_X0_runPlain, cs_X0_run_2, jx_ck_c]
          exact ⟨by omega, fun _ => fin, fun z => by omega⟩
        | succ f ih =>
          intro k M' hk hE hk2
          have hC := xI_C hB hr hE.1 hE.2.1
          have e9 : M' x 5 = S 0 9 := by rw [hC.2.1.1]; exact hE.2.1.1.2 9 (by decide)
          have hA := hC.2.1.2.2.1 k (by omega) (by rw [hE.2.1.1.2 9 (by decide)]; omega)
          have k3 := rA_k3 hA x0 (by omega)
          have ef := rA_first hA
          rw [hE.2.1.1.1 8 _ (by decide) (by decide) (by decide)] at ef
          have f6 : M' r 6 = Q 0 44 := hE.2.1.2.2.2.2 6 (by decide) (by decide) (by decide)
          have wr := hE.2.2.1.2.2.2
          have nx : ∀ v, v = (if 0 < Q 0 44 then Q 32 (16 * (Q 0 44 - 1) + k) else S 8 k) → jx_V D l (yX0_run_2.cls, cX0_run_2, 5, 3, [], 5, 48, 32000, yX0_run_2.name) Po 30 [(60, n1, x), (63, n2, r), (0, n3, n), (0, n4, lb), (0, 0, (k : Int) + 1)] [] (u1, u2) (g') (jx_u M' (r + 1) k v) := by
            intro v hv
            have := ih (k + 1) (jx_u M' (r + 1) k v) (by omega) (xE_r1 hr hE) (fun a a0 a1 => by
              by_cases c : a = k
              · rw [c, jx_u_eq]; exact hv
              · rw [jx_u_j _ _ _ _ _ _ c]; exact hk2 a a0 (by omega))
            rw [show (((k + 1 : Nat) : Int)) = (k : Int) + 1 by omega] at this
            exact this
          refine jx_runL (o := jo_X0) (cs := cs_X0_run_2) (hf := jx_nh) jo_X0_ok hc_X0_run_2 (jx_HK_nil rfl) (fun p => p == 30 || p == 89) 40 ?_
          simp only [jw, ju, jx_tg, Int.cast_ofNat_Int, Int.reduceAdd, Int.reduceToNat, Nat.reduceAdd, Nat.reduceMul, Nat.reduceBEq, Nat.reduceLeDiff, Int.reduceLE, Int.reduceLT, Int.reduceEq, Int.reduceNeg, Int.reduceSub, Int.reduceMul, not_false_eq_true, true_and, and_true, and_self, Bool.or_false, Bool.false_or, Bool.or_true, Bool.true_or, List.length_nil, List.length_cons, Nat.zero_le, or_true, true_or, Nat.le_refl, ↓reduceIte, Nat.reduceEqDiff, forall_const, false_and, and_false, false_implies, implies_true, not_true_eq_false, or_false, false_or, ne_eq, jd_X0_run_2, jf_X0, e9, f6, ef, js_X0_mostStages, js_X0_runLaid, js_X0_runPlain, cs_X0_run_2, jx_ck_c]
          refine ⟨by omega, fun z => by omega, fun _ => ⟨by omega, fun z => ⟨by omega, k3, by omega, nx _ (by rw [if_neg (by omega)])⟩, fun z => ⟨by omega, by omega, ?_⟩⟩⟩
          rw [hE.2.2.2 (by omega) k (by omega) (by omega)]
          exact nx _ (by rw [if_pos (by omega)])
      have st := loop (S 0 9).toNat 0 M' (by omega) hE (fun a a0 a1 => by omega)
      refine jx_runL (o := jo_X0) (cs := cs_X0_run_2) (hf := jx_nh) jo_X0_ok hc_X0_run_2 (jx_HK_nil rfl) (fun p => p == 30) 20 ?_
      simp only [jw, ju, jx_tg, Int.cast_ofNat_Int, Int.reduceAdd, Int.reduceToNat, Nat.reduceAdd, Nat.reduceMul, Nat.reduceBEq, Nat.reduceLeDiff, Int.reduceLE, Int.reduceLT, Int.reduceEq, Int.reduceNeg, Int.reduceSub, Int.reduceMul, not_false_eq_true, true_and, and_true, and_self, Bool.or_false, Bool.false_or, Bool.or_true, Bool.true_or, List.length_nil, List.length_cons, Nat.zero_le, or_true, true_or, Nat.le_refl, ↓reduceIte, Nat.reduceEqDiff, forall_const, false_and, and_false, false_implies, implies_true, not_true_eq_false, or_false, false_or, ne_eq, jd_X0_run_2, jf_X0, js_X0_mostStages, js_X0_runLaid, js_X0_runPlain, cs_X0_run_2, jx_ck_c]
      exact st
    have at21 : ∀ (u1 u2 : Nat), (u1 = 0 ∧ u2 = 0) → ¬ (lb ≠ 0 ∧ mm_max (S 25) (S 0 9).toNat + 1 ≤ n) → jx_V D l (yX0_run_2.cls, cX0_run_2, 5, 3, [], 5, 48, 32000, yX0_run_2.name) Po 21 [(60, n1, x), (63, n2, r), (0, n3, n), (0, n4, lb), (5, 0, 0)] [] (u1, u2) (g) (M) := by
      intro u1 u2 hu c
      obtain ⟨rfl, rfl⟩ := hu
      refine jx_runL (o := jo_X0) (cs := cs_X0_run_2) (hf := jx_nh) jo_X0_ok hc_X0_run_2 (jx_HK_nil rfl) (fun p => p == 27) 20 ?_
      simp only [jw, ju, jx_tg, Int.cast_ofNat_Int, Int.reduceAdd, Int.reduceToNat, Nat.reduceAdd, Nat.reduceMul, Nat.reduceBEq, Nat.reduceLeDiff, Int.reduceLE, Int.reduceLT, Int.reduceEq, Int.reduceNeg, Int.reduceSub, Int.reduceMul, not_false_eq_true, true_and, and_true, and_self, Bool.or_false, Bool.false_or, Bool.or_true, Bool.true_or, List.length_nil, List.length_cons, Nat.zero_le, or_true, true_or, Nat.le_refl, ↓reduceIte, Nat.reduceEqDiff, forall_const, false_and, and_false, false_implies, implies_true, not_true_eq_false, or_false, false_or, ne_eq, jd_X0_run_2, jf_X0, js_X0_mostStages, js_X0_runLaid, js_X0_runPlain, cs_X0_run_2, jx_ck_c]
      refine ⟨S, ⟨hB, hl, hr, hn, hz⟩, fun g' M' hE => at27 _ _ g' M' ?_⟩
      unfold xRun xRl
      rw [if_neg c, if_neg c]
      exact hE
    by_cases c : lb = 0
    · refine jx_runL (o := jo_X0) (cs := cs_X0_run_2) (hf := jx_nh) jo_X0_ok hc_X0_run_2 (jx_HK_nil rfl) (fun p => p == 21 || p == 4) 20 ?_
      simp only [jw, ju, jx_tg, Int.cast_ofNat_Int, Int.reduceAdd, Int.reduceToNat, Nat.reduceAdd, Nat.reduceMul, Nat.reduceBEq, Nat.reduceLeDiff, Int.reduceLE, Int.reduceLT, Int.reduceEq, Int.reduceNeg, Int.reduceSub, Int.reduceMul, not_false_eq_true, true_and, and_true, and_self, Bool.or_false, Bool.false_or, Bool.or_true, Bool.true_or, List.length_nil, List.length_cons, Nat.zero_le, or_true, true_or, Nat.le_refl, ↓reduceIte, Nat.reduceEqDiff, forall_const, false_and, and_false, false_implies, implies_true, not_true_eq_false, or_false, false_or, ne_eq, jd_X0_run_2, jf_X0, js_X0_mostStages, js_X0_runLaid, js_X0_runPlain, cs_X0_run_2, jx_ck_c]
      exact ⟨rl, fun _ => at21 0 0 ⟨rfl, rfl⟩ (fun z => z.1 c), fun z => absurd c z⟩
    · have c0 := hlb c
      have l2 := (hL.2 c0).2
      have es : mm_max (M (x + 31)) (S 0 9).toNat = mm_max (S 25) (S 0 9).toNat := mm_max_congr _ (fun v v0 v1 => (l2 v v0 (by omega)).2.1)
      have mr := mm_max_r (S 25) 1000 (by omega) (S 0 9).toNat (fun v a b => ((hW.2.2.1 c0).2.1 v a (by omega)).2.1.2)
      refine jx_runL (o := jo_X0) (cs := cs_X0_run_2) (hf := jx_nh) jo_X0_ok hc_X0_run_2 (jx_HK_nil rfl) (fun p => p == 21 || p == 27) 20 ?_
      simp only [jw, ju, jx_tg, Int.cast_ofNat_Int, Int.reduceAdd, Int.reduceToNat, Nat.reduceAdd, Nat.reduceMul, Nat.reduceBEq, Nat.reduceLeDiff, Int.reduceLE, Int.reduceLT, Int.reduceEq, Int.reduceNeg, Int.reduceSub, Int.reduceMul, not_false_eq_true, true_and, and_true, and_self, Bool.or_false, Bool.false_or, Bool.or_true, Bool.true_or, List.length_nil, List.length_cons, Nat.zero_le, or_true, true_or, Nat.le_refl, ↓reduceIte, Nat.reduceEqDiff, forall_const, false_and, and_false, false_implies, implies_true, not_true_eq_false, or_false, false_or, ne_eq, jd_X0_run_2, jf_X0, r5, es, js_X0_mostStages, js_X0_runLaid, js_X0_runPlain, cs_X0_run_2, jx_ck_c]
      refine ⟨rl, fun z => absurd z c, fun _ => ⟨⟨h9, fun a a0 a1 => ?_⟩, ⟨by omega, by omega⟩, fun z => at21 0 0 ⟨rfl, rfl⟩ (fun w => by omega), fun z => ⟨S, ⟨hB, hl, hL, hW, hV, c0, hr, by omega, hz⟩, fun g' M' hE => at27 _ _ g' M' ?_⟩⟩⟩
      · rw [(l2 a a0 a1).2.1]
        exact ((hW.2.2.1 c0).2.1 a a0 a1).2.1
      · unfold xRun xRl
        have cc : lb ≠ 0 ∧ mm_max (S 25) (S 0 9).toNat + 1 ≤ n := ⟨c, by omega⟩
        rw [if_pos cc, if_pos cc]
        exact hE
  · exact hS.elim
def js_X0_needRun : jx_Sp := fun as g M Po => match as with
  | [(60, _, x), (0, _, n), (0, _, lb)] => ∃ S, (0 ≤ x ∧ rBd x S g M ∧ rLd x S M ∧ mB S ∧ jx_r n ∧ jx_r lb) ∧ (mm_whyrun S n lb = 0 → Po (3, 0, 0) g M) ∧ (mm_whyrun S n lb ≠ 0 → Po (4, 6, x + 49 - mm_whyrun S n lb) g M)
  | _ => False
def cs_X0_needRun : jx_Cs := [(780, 1, 0, 0, js_X0_isWhole), (789, 3, 0, 0, js_X0_need)]
theorem hc_X0_needRun {D : jx_D} {l : Launch} : jx_CsOK D l "LoopLane" 1 cs_X0_needRun := List.forall_mem_cons.mpr ⟨jc_X0_260 (jt_X0_isWhole l) (fun as g M Po (h : js_X0_isWhole as g M Po) => by unfold js_X0_isWhole at h; split at h <;> first | exact h.elim | exact ⟨_, _, _, rfl, rfl⟩) (by decide), List.forall_mem_cons.mpr ⟨jc_X0_263 (jt_X0_need l) (fun as g M Po (h : js_X0_need as g M Po) => by unfold js_X0_need at h; split at h <;> first | exact h.elim | exact ⟨_, _, _, rfl, rfl⟩) (by decide), fun _ h => absurd h List.not_mem_nil⟩⟩
set_option maxHeartbeats 4000000 in
theorem jt_X0_needRun (l : Launch) : jx_Ct l yX0_needRun (ws_ yX0_needRun cX0_needRun 3 none) 1 0 0 js_X0_needRun := by
  refine jx_Ct_c (rc := 3) (by decide) rfl (fun D as g M Po hS => ?_)
  unfold js_X0_needRun at hS
  split at hS
  · rename_i n1 x n2 n n3 lb
    obtain ⟨S, ⟨x0, hb, hL, hB, rn, rl⟩, hY, hN⟩ := hS
    have h9 := hB.1
    have r5 := hb.1
    have l1 := hL.1
    refine ⟨Nat.le_of_ble_eq_true rfl, ?_⟩
    have at36 : mm_ready S → ¬ (lb ≠ 0 ∧ S 0 27 = 0) → jx_V D l (yX0_needRun.cls, cX0_needRun, 3, 3, [], 1, 0, 0, yX0_needRun.name) Po 36 [(60, n1, x), (0, n2, n), (0, n3, lb)] [] (0, 0) g (M) := by
      intro c1 c2
      have cc : ¬ (¬ mm_ready S ∨ (lb ≠ 0 ∧ S 0 27 = 0)) := fun z => z.elim (fun w => w c1) c2
      unfold mm_whyrun at hY hN
      rw [if_neg cc] at hY hN
      refine jx_runL (o := jo_X0) (cs := cs_X0_needRun) (hf := jx_nh) jo_X0_ok hc_X0_needRun (jx_HK_nil rfl) (fun _ => false) 60 ?_
      simp only [jw, ju, jx_tg, Int.cast_ofNat_Int, Int.reduceAdd, Int.reduceToNat, Nat.reduceAdd, Nat.reduceMul, Nat.reduceBEq, Nat.reduceLeDiff, Int.reduceLE, Int.reduceLT, Int.reduceEq, Int.reduceNeg, Int.reduceSub, Int.reduceMul, not_false_eq_true, true_and, and_true, and_self, Bool.or_false, Bool.false_or, Bool.or_true, Bool.true_or, List.length_nil, List.length_cons, Nat.zero_le, or_true, true_or, Nat.le_refl, ↓reduceIte, Nat.reduceEqDiff, forall_const, false_and, and_false, false_implies, implies_true, not_true_eq_false, or_false, false_or, ne_eq, jd_X0_needRun, jf_X0, js_X0_isWhole, js_X0_need, cs_X0_needRun, jx_ck_c]
      refine ⟨rn, fun z => ⟨by decide, ?_⟩, fun z => ⟨by decide, rn, fun w => ⟨by decide, ?_⟩, fun w => ⟨by decide, ?_⟩⟩⟩
      · rw [if_pos z] at hN
        exact hN (by decide)
      · rw [if_neg z, if_pos w] at hN
        exact hN (by decide)
      · rw [if_neg z, if_neg w] at hY
        exact hY rfl
    have at30 : (¬ mm_ready S ∨ (lb ≠ 0 ∧ S 0 27 = 0)) → jx_V D l (yX0_needRun.cls, cX0_needRun, 3, 3, [], 1, 0, 0, yX0_needRun.name) Po 30 [(60, n1, x), (0, n2, n), (0, n3, lb)] [(60, n1, x)] (0, 0) g M := by
      intro c
      unfold mm_whyrun at hN
      rw [if_pos c] at hN
      refine jx_runL (o := jo_X0) (cs := cs_X0_needRun) (hf := jx_nh) jo_X0_ok hc_X0_needRun (jx_HK_nil rfl) (fun p => p == 36) 40 ?_
      simp only [jw, ju, jx_tg, Int.cast_ofNat_Int, Int.reduceAdd, Int.reduceToNat, Nat.reduceAdd, Nat.reduceMul, Nat.reduceBEq, Nat.reduceLeDiff, Int.reduceLE, Int.reduceLT, Int.reduceEq, Int.reduceNeg, Int.reduceSub, Int.reduceMul, not_false_eq_true, true_and, and_true, and_self, Bool.or_false, Bool.false_or, Bool.or_true, Bool.true_or, List.length_nil, List.length_cons, Nat.zero_le, or_true, true_or, Nat.le_refl, ↓reduceIte, Nat.reduceEqDiff, forall_const, false_and, and_false, false_implies, implies_true, not_true_eq_false, or_false, false_or, ne_eq, jd_X0_needRun, jf_X0, js_X0_isWhole, js_X0_need, cs_X0_needRun, jx_ck_c]
      exact ⟨by decide, hN (by decide)⟩
    have at26 : mm_ready S → ¬ (lb ≠ 0 ∧ S 0 27 = 0) → jx_V D l (yX0_needRun.cls, cX0_needRun, 3, 3, [], 1, 0, 0, yX0_needRun.name) Po 26 [(60, n1, x), (0, n2, n), (0, n3, lb)] [(60, n1, x)] (0, 0) g M := by
      intro c1 c2
      have a := at36 c1 c2
      refine jx_runL (o := jo_X0) (cs := cs_X0_needRun) (hf := jx_nh) jo_X0_ok hc_X0_needRun (jx_HK_nil rfl) (fun p => p == 36) 40 ?_
      simp only [jw, ju, jx_tg, Int.cast_ofNat_Int, Int.reduceAdd, Int.reduceToNat, Nat.reduceAdd, Nat.reduceMul, Nat.reduceBEq, Nat.reduceLeDiff, Int.reduceLE, Int.reduceLT, Int.reduceEq, Int.reduceNeg, Int.reduceSub, Int.reduceMul, not_false_eq_true, true_and, and_true, and_self, Bool.or_false, Bool.false_or, Bool.or_true, Bool.true_or, List.length_nil, List.length_cons, Nat.zero_le, or_true, true_or, Nat.le_refl, ↓reduceIte, Nat.reduceEqDiff, forall_const, false_and, and_false, false_implies, implies_true, not_true_eq_false, or_false, false_or, ne_eq, jd_X0_needRun, jf_X0, js_X0_isWhole, js_X0_need, cs_X0_needRun, jx_ck_c]
      exact ⟨by decide, a⟩
    have e25 : (M x 25 = 0 ↔ S 0 27 = 0) ∧ (0 ≤ M x 25 ∧ M x 25 ≤ 1) := by
      rw [l1]
      split
      · rename_i z; exact ⟨⟨fun _ => z, fun _ => rfl⟩, by decide⟩
      · rename_i z; exact ⟨⟨fun w => absurd w (by decide), fun w => absurd w z⟩, by decide⟩
    refine jx_runL (o := jo_X0) (cs := cs_X0_needRun) (hf := jx_nh) jo_X0_ok hc_X0_needRun (jx_HK_nil rfl) (fun p => p == 26 || p == 30) 40 ?_
    simp only [jw, ju, jx_tg, Int.cast_ofNat_Int, Int.reduceAdd, Int.reduceToNat, Nat.reduceAdd, Nat.reduceMul, Nat.reduceBEq, Nat.reduceLeDiff, Int.reduceLE, Int.reduceLT, Int.reduceEq, Int.reduceNeg, Int.reduceSub, Int.reduceMul, not_false_eq_true, true_and, and_true, and_self, Bool.or_false, Bool.false_or, Bool.or_true, Bool.true_or, List.length_nil, List.length_cons, Nat.zero_le, or_true, true_or, Nat.le_refl, ↓reduceIte, Nat.reduceEqDiff, forall_const, false_and, and_false, false_implies, implies_true, not_true_eq_false, or_false, false_or, ne_eq, jd_X0_needRun, jf_X0, r5, js_X0_isWhole, js_X0_need, cs_X0_needRun, jx_ck_c]
    refine ⟨by omega, fun z => at30 (.inl (fun w => by have := w.1; omega)), fun z => ⟨S, ⟨x0, hb, hB⟩, fun w => ⟨rl, fun v => at26 ⟨by omega, w⟩ (fun y => y.1 v), fun v => ⟨by omega, fun y => at30 (.inr ⟨v, e25.1.mp y⟩), fun y => at26 ⟨by omega, w⟩ (fun q => y (e25.1.mpr q.2))⟩⟩, fun w => at30 (.inl (fun v => w v.2))⟩⟩
  · exact hS.elim
theorem mm_same_43 {S Q : jx_M} {v : Int} (h : mm_same S Q) : mm_same S (jx_u Q 0 43 v) := mm_same_0 h (by decide)
/-- all but the result is as it was -/
theorem rR_run {x r lb : Int} {S Q : jx_M} {g g' : jx_S} {M M' : jx_M} (hR : rR x S g M) (hB : mB S) (hr : xr3 x r) (hs : mm_same S Q) (hg : rG g g') (hf : xFr x r M M') (hl : rSl x Q g' M') (hq : rRs x Q M') : rR x Q g' M' := by
  have z := mm_same_Z hs
  have x0 := hR.1.1
  have fr : ∀ z k, z < x + 430 → ¬ (x + 37 ≤ z ∧ z ≤ x + 46) → M' z k = M z k := fun z k a b => hf z k a (by unfold xr3 at hr; omega) (by unfold xr3 at hr; omega) (by omega)
  have row : ∀ j, 1 ≤ j → j ≤ 31 → j ≠ 19 → Q j = S j := fun j a b c => funext fun k => hs.1 j k a b c
  refine ⟨rSh_g hR.1 hg, rBd_Z z (rBd_g hB.1.2 hR.1 (rBd_c hB.1.2 hR.2.1 (fun z k w => fr z k (by unfold qBd at w; omega) (by unfold qBd at w; omega))) hg), rEd_Z z (rEd_c hR.2.2.1 (fun z k w => fr z k (by unfold qEd at w; omega) (by unfold qEd at w; omega))), ?_, hq, ?_, hl⟩
  · exact rLd_S (rLd_c hR.2.2.2.1 (fun z k w => fr z k (by unfold qLd at w; omega) (by unfold qLd at w; omega))) (hs.2 27 (by decide)) (hs.2 9 (by decide)) (row 24 (by decide) (by decide) (by decide)) (row 25 (by decide) (by decide) (by decide)) (row 27 (by decide) (by decide) (by decide))
  · exact rMs_S (rMs_c hR.2.2.2.2.2.1 (fun z k w => fr z k (by unfold qMs at w; omega) (by unfold qMs at w; omega))) (hs.2 32 (by decide)) (hs.2 26 (by decide)) (row 23 (by decide) (by decide) (by decide)) (row 31 (by decide) (by decide) (by decide))
theorem xZ_forget {S : jx_M} : xZ (mu_forget S 0) := by
  unfold xZ mu_forget
  simp (disch := decide) only [jx_u_j, jx_u_eq, and_self]
theorem mu_forget_44 {S : jx_M} : mu_forget S 0 0 44 = 0 ∧ mu_forget S 0 0 43 = 0 := by
  unfold mu_forget
  simp (disch := decide) only [jx_u_j, jx_u_eq, and_self]
theorem mu_forget_0 {S : jx_M} {k : Int} (h : k < 38) : mu_forget S 0 0 k = S 0 k := mm_same_forget.2 k h
theorem mu_forget_j {S : jx_M} {j : Int} (h : j ≠ 0) : mu_forget S 0 j = S j := by
  unfold mu_forget
  rw [jx_u_row h, jx_u_row h, jx_u_row h, jx_u_row h, jx_u_row h, jx_u_row h, jx_u_row h]
theorem me_all_same {S Q : jx_M} (h : mm_same S Q) : me_all Q = me_all S := me_all_Z (mm_same_Z h)
theorem mWl_same {S Q : jx_M} (h : mm_same S Q) (hl : mWl S) : mWl Q := by
  obtain ⟨h1, h2, h3⟩ := hl
  refine ⟨⟨by rw [h.2 9 (by decide)]; exact h1.1, mm_whole_same h h1.2⟩, fun a a0 a1 => ?_, fun a b t d e => ?_⟩
  · rw [h.2 9 (by decide)] at a1
    rw [h.2 27 (by decide), h.1 24 _ (by decide) (by decide) (by decide), h.1 25 _ (by decide) (by decide) (by decide), h.1 26 _ (by decide) (by decide) (by decide), h.1 27 _ (by decide) (by decide) (by decide)]
    exact h2 a a0 a1
  · rw [me_all_same h] at e
    rw [h.2 27 (by decide), h.1 26 _ (by decide) (by decide) (by decide), h.1 26 _ (by decide) (by decide) (by decide)]
    exact h3 a b t d e
theorem mW_same {S Q : jx_M} (h : mm_same S Q) (hW : mW S) (h44 : 0 ≤ Q 0 44 ∧ Q 0 44 ≤ 200) (h43 : Q 0 43 = 0 ∨ Q 0 43 = 1) : mW Q := by
  obtain ⟨w1, w2, w3, w4, w5, w6, w7⟩ := hW
  refine ⟨mB_Z (mm_same_Z h) w1, by rw [h.2 27 (by decide)]; exact w2, fun c => mWl_same h (w3 (by rw [h.2 27 (by decide)] at c; exact c)), h44, by rw [h.2 26 (by decide)]; exact w5, mm_rows_same h w6, h43⟩
theorem mV_same {S Q : jx_M} (h : mm_same S Q) (hV : mV S) : mV Q := fun c a a0 a1 => by
  rw [h.2 27 (by decide)] at c
  rw [h.2 9 (by decide)] at a1
  rw [h.1 25 _ (by decide) (by decide) (by decide)]
  exact hV c a a0 a1
theorem mW_forget {S : jx_M} (hW : mW S) : mW (mu_forget S 0) := mW_same mm_same_forget hW (by rw [mu_forget_44.1]; decide) (.inl mu_forget_44.2)
/-- the premises of a run -/
theorem xB_of {x : Int} {S : jx_M} {g : jx_S} {M : jx_M} (hR : rR x S g M) (hW : mW S) (hw : mm_whole S) : xB x (mu_forget S 0) g M ∧ rSl x (mu_forget S 0) g M ∧ rLd x (mu_forget S 0) M := by
  have sf := mm_same_forget (S := S)
  refine ⟨⟨hR.1, rBd_Z (mm_same_Z sf) hR.2.1, mB_Z (mm_same_Z sf) hW.1, mm_whole_same sf hw, mm_rows_same sf hW.2.2.2.2.2.1⟩, rSl_S hR.2.2.2.2.2.2 (mu_forget_j (by decide)) (mu_forget_j (by decide)) (mu_forget_j (by decide)), rLd_S hR.2.2.2.1 (mu_forget_0 (by decide)) (mu_forget_0 (by decide)) (mu_forget_j (by decide)) (mu_forget_j (by decide)) (mu_forget_j (by decide))⟩
theorem f_run_x {n lb : Int} {S : jx_M} (h : mm_whyrun S n lb = 0) : f_run n lb S = (xRun n lb (mu_forget S 0) 0 44, jx_u (xRun n lb (mu_forget S 0)) 0 43 (xRl n lb (mu_forget S 0))) := by
  unfold f_run xRun xRl
  rw [if_pos h, mu_forget_j (S := S) (j := 25) (by decide), mu_forget_0 (S := S) (k := 9) (by decide)]
  split <;> rfl
theorem xwr_0 {S : jx_M} {n lb : Int} (h : mm_whyrun S n lb = 0) : mm_ready S ∧ (lb ≠ 0 → S 0 27 ≠ 0) ∧ (0 ≤ n ∧ n ≤ 200) := by
  unfold mm_whyrun at h
  split at h
  · exact absurd h (by decide)
  · rename_i c
    refine ⟨Classical.byContradiction fun z => c (.inl z), fun z w => c (.inr ⟨z, w⟩), ?_⟩
    split at h
    · exact absurd h (by decide)
    · split at h
      · exact absurd h (by decide)
      · omega
theorem xwr_r {S : jx_M} {n lb : Int} (h : mm_whyrun S n lb ≠ 0) : -11 ≤ mm_whyrun S n lb ∧ mm_whyrun S n lb ≤ -1 := by
  unfold mm_whyrun at h ⊢
  split
  · decide
  · split
    · decide
    · split
      · decide
      · rename_i c1 c2 c3
        rw [if_neg c1, if_neg c2, if_neg c3] at h
        exact absurd rfl h
theorem xRl_01 {n lb : Int} {S : jx_M} : xRl n lb S = 0 ∨ xRl n lb S = 1 := by
  unfold xRl
  split
  · exact .inr rfl
  · exact .inl rfl
def js_X0_run : jx_Sp := fun as g M Po => match as with
  | [(60, _, x), (0, _, n), (0, _, lb)] => ∃ S, (rR x S g M ∧ mW S ∧ mV S ∧ jx_r n ∧ jx_r lb) ∧ rK x g M Po 0 (f_run n lb S).1 (f_run n lb S).2
  | _ => False
def cs_X0_run : jx_Cs := [(1440, 3, 0, 0, js_X0_needRun), (888, 4, 48, 32000, js_X0_run_2), (1161, 2, 0, 0, js_X0_refuse)]
theorem hc_X0_run {D : jx_D} {l : Launch} : jx_CsOK D l "LoopLane" 6 cs_X0_run := List.forall_mem_cons.mpr ⟨jc_X0_480 (jt_X0_needRun l) (fun as g M Po (h : js_X0_needRun as g M Po) => by unfold js_X0_needRun at h; split at h <;> first | exact h.elim | exact ⟨_, _, _, rfl, rfl⟩) (by decide), List.forall_mem_cons.mpr ⟨jc_X0_296 (jt_X0_run_2 l) (fun as g M Po (h : js_X0_run_2 as g M Po) => by unfold js_X0_run_2 at h; split at h <;> first | exact h.elim | exact ⟨_, _, _, rfl, rfl⟩) (by decide), List.forall_mem_cons.mpr ⟨jc_X0_387 (jt_X0_refuse l) (fun as g M Po (h : js_X0_refuse as g M Po) => by unfold js_X0_refuse at h; split at h <;> first | exact h.elim | exact ⟨_, _, _, rfl, rfl⟩) (by decide), fun _ h => absurd h List.not_mem_nil⟩⟩⟩
abbrev th_X0_run : List (Nat × Nat × Nat × Nat) := [(0, 23, 24, 315)]
theorem jh_X0_run : jx_hf th_X0_run 3 1 = none ∧ jx_hf th_X0_run 3 2 = none ∧ jx_hf th_X0_run 3 3 = none ∧ jx_hf th_X0_run 3 4 = none ∧ jx_hf th_X0_run 3 5 = none ∧ jx_hf th_X0_run 3 6 = some 24 ∧ jx_hf th_X0_run 13 1 = none ∧ jx_hf th_X0_run 13 2 = none ∧ jx_hf th_X0_run 13 3 = none ∧ jx_hf th_X0_run 13 4 = none ∧ jx_hf th_X0_run 13 5 = none ∧ jx_hf th_X0_run 13 6 = some 24 ∧ jx_hf th_X0_run 30 1 = none ∧ jx_hf th_X0_run 30 2 = none ∧ jx_hf th_X0_run 30 3 = none ∧ jx_hf th_X0_run 30 4 = none ∧ jx_hf th_X0_run 30 5 = none ∧ jx_hf th_X0_run 30 6 = none := by refine ⟨?_, ?_, ?_, ?_, ?_, ?_, ?_, ?_, ?_, ?_, ?_, ?_, ?_, ?_, ?_, ?_, ?_, ?_⟩ <;> rfl
theorem jk_X0_run : ∀ q ∈ th_X0_run, jx_ct q.2.2.2 := by unfold th_X0_run; simp [jx_ct]
set_option maxHeartbeats 4000000 in
theorem jt_X0_run (l : Launch) : jx_Ct l yX0_run (wsW_ yX0_run cX0_run 4 (some .int) th_X0_run) 6 48 32000 js_X0_run := by
  refine jx_Ct_w (rc := 0) (by decide) rfl (fun D as g M Po hS => ?_)
  unfold js_X0_run at hS
  split at hS
  · rename_i n1 x n2 n n3 lb
    obtain ⟨S, ⟨hR, hW, hV, rn, rl⟩, hK⟩ := hS
    have hB := hW.1
    have h9 := hB.1
    have x0 := hR.1.1
    refine ⟨Nat.le_of_ble_eq_true rfl, ?_⟩
    by_cases c : mm_whyrun S n lb = 0
    · have w0 := xwr_0 c
      have pre := xB_of hR hW w0.1.2
      rw [f_run_x c] at hK
      have at16 : ∀ g' M', xE x (x + 37) (xRl n lb (mu_forget S 0)) (mu_forget S 0) g M (xRun n lb (mu_forget S 0)) g' M' → xEn (x + 37) (mu_forget S 0) (xRun n lb (mu_forget S 0)) M' (mu_forget S 0 0 9) → Po (0, 0, xRun n lb (mu_forget S 0) 0 44) g' M' := by
        intro g' M' hE hEn
        generalize xRun n lb (mu_forget S 0) = Q at *
        generalize hlq : xRl n lb (mu_forget S 0) = lq at *
        have sq : mm_same S (jx_u Q 0 43 lq) := mm_same_43 (mm_same_tr mm_same_forget hE.2.1.1)
        have q0 : ∀ k, k ≠ 43 → jx_u Q 0 43 lq 0 k = Q 0 k := fun k h => jx_u_j _ _ _ _ _ _ h
        have fl := hE.2.1.2.2.2
        have sl : rSl x (jx_u Q 0 43 lq) g' M' := rSl_S hE.2.1.2.2.1 (jx_u_row (by decide)) (jx_u_row (by decide)) (jx_u_row (by decide))
        dsimp only at hK
        refine hK g' M' (rR_run (Q := jx_u Q 0 43 lq) (r := x + 37) (lb := 0) hR hB (.inl rfl) sq hE.1 hE.2.1.2.1 sl ⟨⟨?_, ?_, ?_, ?_, ?_, ?_, ?_⟩, ?_⟩) ⟨hE.1, fun z i w => hE.2.1.2.1 z i (by omega) (by omega) (by omega) (by omega)⟩
        · rw [q0 _ (by decide)]; exact fl.2 0 (by decide) (by decide) (by decide)
        · rw [q0 _ (by decide)]; exact fl.2 1 (by decide) (by decide) (by decide)
        · rw [q0 _ (by decide)]; exact fl.2 2 (by decide) (by decide) (by decide)
        · rw [q0 _ (by decide)]; exact fl.2 3 (by decide) (by decide) (by decide)
        · rw [q0 _ (by decide)]; exact fl.2 4 (by decide) (by decide) (by decide)
        · rw [jx_u_eq]; exact fl.1
        · rw [q0 _ (by decide)]; exact fl.2 6 (by decide) (by decide) (by decide)
        · rw [q0 44 (by decide), q0 9 (by decide), hE.2.1.1.2 9 (by decide)]
          intro z a a0 a1
          have e := hEn a a0 a1
          rw [if_pos z] at e
          rw [jx_u_a _ _ _ _ _ _ (by decide), ← e, show x + 37 + 1 = x + 38 by omega]
      refine jx_runL (o := jo_X0) (cs := cs_X0_run) (hf := jx_hf th_X0_run) jo_X0_ok hc_X0_run (jx_HK_LL rfl jk_X0_run) (fun p => p == 24) 30 ?_
      simp only [jw, ju, jx_tg, Int.cast_ofNat_Int, Int.reduceAdd, Int.reduceToNat, Nat.reduceAdd, Nat.reduceMul, Nat.reduceBEq, Nat.reduceLeDiff, Int.reduceLE, Int.reduceLT, Int.reduceEq, Int.reduceNeg, Int.reduceSub, Int.reduceMul, not_false_eq_true, true_and, and_true, and_self, Bool.or_false, Bool.false_or, Bool.or_true, Bool.true_or, List.length_nil, List.length_cons, Nat.zero_le, or_true, true_or, Nat.le_refl, ↓reduceIte, Nat.reduceEqDiff, forall_const, false_and, and_false, false_implies, implies_true, not_true_eq_false, or_false, false_or, ne_eq, jd_X0_run, jd_X0_run_2, jf_X0, js_X0_needRun, js_X0_refuse, js_X0_run_2, cs_X0_run, jx_ck_c, jh_X0_run, jx_ex]
      refine ⟨S, ⟨x0, hR.2.1, hR.2.2.2.1, hB, rn, rl⟩, fun _ => ⟨mu_forget S 0, ⟨pre.1, pre.2.1, pre.2.2, mW_forget hW, mV_same mm_same_forget hV, .inl rfl, w0.2.2, xZ_forget, rl, fun z => by rw [mu_forget_0 (by decide)]; exact w0.2.1 z⟩, fun g' M' hE hEn => ?_⟩, fun z => absurd c z⟩
      rw [hE.2.1.2.2.2.2 6 (by decide) (by decide) (by decide), show (38 : Int) + 6 = 44 from rfl]
      exact at16 g' M' hE hEn
    · have wr := xwr_r c
      unfold f_run at hK
      rw [if_neg c] at hK
      have e6 := hR.2.2.2.2.2.1.2.2.2.2 (-mm_whyrun S n lb) (by omega) (by omega)
      rw [show x + 49 + -mm_whyrun S n lb = x + 49 - mm_whyrun S n lb by omega, Int.neg_neg] at e6
      refine jx_runL (o := jo_X0) (cs := cs_X0_run) (hf := jx_hf th_X0_run) jo_X0_ok hc_X0_run (jx_HK_LL rfl jk_X0_run) (fun p => p == 24) 30 ?_
      simp only [jw, ju, jx_tg, Int.cast_ofNat_Int, Int.reduceAdd, Int.reduceToNat, Nat.reduceAdd, Nat.reduceMul, Nat.reduceBEq, Nat.reduceLeDiff, Int.reduceLE, Int.reduceLT, Int.reduceEq, Int.reduceNeg, Int.reduceSub, Int.reduceMul, not_false_eq_true, true_and, and_true, and_self, Bool.or_false, Bool.false_or, Bool.or_true, Bool.true_or, List.length_nil, List.length_cons, Nat.zero_le, or_true, true_or, Nat.le_refl, ↓reduceIte, Nat.reduceEqDiff, forall_const, false_and, and_false, false_implies, implies_true, not_true_eq_false, or_false, false_or, ne_eq, jd_X0_run, jd_X0_run_2, jf_X0, js_X0_needRun, js_X0_refuse, js_X0_run_2, cs_X0_run, jx_ck_c, jh_X0_run, jx_ex]
      refine ⟨S, ⟨x0, hR.2.1, hR.2.2.2.1, hB, rn, rl⟩, fun z => absurd z c, fun _ => ?_⟩
      refine jx_runL (o := jo_X0) (cs := cs_X0_run) (hf := jx_hf th_X0_run) jo_X0_ok hc_X0_run (jx_HK_LL rfl jk_X0_run) (fun _ => false) 30 ?_
      simp only [jw, ju, jx_tg, Int.cast_ofNat_Int, Int.reduceAdd, Int.reduceToNat, Nat.reduceAdd, Nat.reduceMul, Nat.reduceBEq, Nat.reduceLeDiff, Int.reduceLE, Int.reduceLT, Int.reduceEq, Int.reduceNeg, Int.reduceSub, Int.reduceMul, not_false_eq_true, true_and, and_true, and_self, Bool.or_false, Bool.false_or, Bool.or_true, Bool.true_or, List.length_nil, List.length_cons, Nat.zero_le, or_true, true_or, Nat.le_refl, ↓reduceIte, Nat.reduceEqDiff, forall_const, false_and, and_false, false_implies, implies_true, not_true_eq_false, or_false, false_or, ne_eq, jd_X0_run, jd_X0_run_2, jf_X0, e6, js_X0_needRun, js_X0_refuse, js_X0_run_2, cs_X0_run, jx_ck_c, jh_X0_run, jx_ex]
      exact ⟨wr, rK_no h9.2 wr hR rFr_rf hK⟩
  · exact hS.elim
