/-! LoopLane: layOut, lay -/
set_option maxRecDepth 100000
theorem ms_lay_hi {S : jx_M} {f : Nat} {b tr : Int} (h : 60 < b) : ms_lay S (f + 1) b tr = (3, b, tr, fun _ => 0) := by
  unfold ms_lay
  rw [if_pos h]
theorem ms_lay_3 {S : jx_M} {f : Nat} {b tr : Int} (h : ¬ 60 < b) (h3 : (ms_go S b 61000 0 (fun _ => 0) tr).1 = 3) : ms_lay S (f + 1) b tr = ms_lay S f (b + 1) (ms_go S b 61000 0 (fun _ => 0) tr).2.1 := by
  rw [ms_lay.eq_def]
  dsimp only
  rw [if_neg h, if_pos h3]
theorem ms_lay_x {S : jx_M} {f : Nat} {b tr : Int} (h : ¬ 60 < b) (h3 : (ms_go S b 61000 0 (fun _ => 0) tr).1 ≠ 3) : ms_lay S (f + 1) b tr = ((ms_go S b 61000 0 (fun _ => 0) tr).1, b, (ms_go S b 61000 0 (fun _ => 0) tr).2.1, (ms_go S b 61000 0 (fun _ => 0) tr).2.2) := by
  rw [ms_lay.eq_def]
  dsimp only
  rw [if_neg h, if_neg h3]
/-- the beat of a laying -/
theorem ms_lay_r {S : jx_M} : ∀ (f : Nat) (b tr : Int), 1 ≤ b → (ms_lay S f b tr).1 = 0 → 1 ≤ (ms_lay S f b tr).2.1 ∧ (ms_lay S f b tr).2.1 ≤ 60
  | 0, b, tr, hb, h => by
    have h : (3 : Int) = 0 := h
    omega
  | f + 1, b, tr, hb, h => by
    by_cases c : 60 < b
    · rw [ms_lay_hi c] at h
      have h : (3 : Int) = 0 := h
      omega
    · by_cases d : (ms_go S b 61000 0 (fun _ => 0) tr).1 = 3
      · rw [ms_lay_3 c d] at h ⊢
        exact ms_lay_r f (b + 1) _ (by omega) h
      · rw [ms_lay_x c d]
        exact ⟨hb, by show b ≤ 60; omega⟩
theorem ms_lay_b {S : jx_M} (hB : mB S) (h : (ms_lay S 61 (mm_lw S) 0).1 = 0) : 1 ≤ (ms_lay S 61 (mm_lw S) 0).2.1 ∧ (ms_lay S 61 (mm_lw S) 0).2.1 ≤ 60 := ms_lay_r 61 _ _ (mm_lwW hB) h
def xLf (x : Int) (M M' : jx_M) : Prop := ∀ z k : Int, ¬ (x + 30 ≤ z ∧ z ≤ x + 36) → ¬ (z = x ∧ (k = 25 ∨ k = 26 ∨ k = 30 ∨ k = 34 ∨ k = 35)) → M' z k = M z k
def js_X0_layOut : jx_Sp := fun as g M Po => match as with
  | [(60, _, x)] => ∃ S, (0 ≤ x ∧ rBd x S g M ∧ rEd x S M ∧ mB S ∧ M x 34 = 0) ∧ (¬ mm_ready S → Po (4, 6, x + 51) g M) ∧
     (mm_ready S → (∀ M' : jx_M, (ms_lay S 61 (mm_lw S) 0).1 = 0 → xLf x M M' → M' x 25 = 1 → M' x 26 = (ms_lay S 61 (mm_lw S) 0).2.1 → M' x 34 = (ms_lay S 61 (mm_lw S) 0).2.2.1 → (∀ a, 0 ≤ a → a < S 0 9 → M' (x + 30) a = (ms_lay S 61 (mm_lw S) 0).2.2.2 a ∧ M' (x + 31) a = ms_st S (ms_lay S 61 (mm_lw S) 0).2.1 (ms_lay S 61 (mm_lw S) 0).2.2.2 a ∧ M' (x + 32) a = (ms_lay S 61 (mm_lw S) 0).2.1 * ms_st S (ms_lay S 61 (mm_lw S) 0).2.1 (ms_lay S 61 (mm_lw S) 0).2.2.2 a + (ms_lay S 61 (mm_lw S) 0).2.2.2 a) → Po (0, 0, (ms_lay S 61 (mm_lw S) 0).2.1) g M') ∧
       (∀ M' : jx_M, (ms_lay S 61 (mm_lw S) 0).1 = 4 → xTf x M M' → M' x 34 = (ms_lay S 61 (mm_lw S) 0).2.2.1 → Po (4, 6, x + 60) g M') ∧
       (∀ M' : jx_M, (ms_lay S 61 (mm_lw S) 0).1 = 3 → xTf x M M' → M' x 34 = (ms_lay S 61 (mm_lw S) 0).2.2.1 → Po (4, 6, x + 58) g M'))
  | _ => False
def cs_X0_layOut : jx_Cs := [(780, 1, 0, 0, js_X0_isWhole), (789, 3, 0, 0, js_X0_need), (1362, 1, 0, 0, js_X0_lowestBeat), (1371, 2, 0, 0, js_X0_search), (1380, 2, 0, 0, js_X0_take)]
theorem hc_X0_layOut {D : jx_D} {l : Launch} : jx_CsOK D l "LoopLane" 22 cs_X0_layOut := List.forall_mem_cons.mpr ⟨jc_X0_260 (jt_X0_isWhole l) (fun as g M Po (h : js_X0_isWhole as g M Po) => by unfold js_X0_isWhole at h; split at h <;> first | exact h.elim | exact ⟨_, _, _, rfl, rfl⟩) (by decide), List.forall_mem_cons.mpr ⟨jc_X0_263 (jt_X0_need l) (fun as g M Po (h : js_X0_need as g M Po) => by unfold js_X0_need at h; split at h <;> first | exact h.elim | exact ⟨_, _, _, rfl, rfl⟩) (by decide), List.forall_mem_cons.mpr ⟨jc_X0_454 (jt_X0_lowestBeat l) (fun as g M Po (h : js_X0_lowestBeat as g M Po) => by unfold js_X0_lowestBeat at h; split at h <;> first | exact h.elim | exact ⟨_, _, _, rfl, rfl⟩) (by decide), List.forall_mem_cons.mpr ⟨jc_X0_457 (jt_X0_search l) (fun as g M Po (h : js_X0_search as g M Po) => by unfold js_X0_search at h; split at h <;> first | exact h.elim | exact ⟨_, _, _, rfl, rfl⟩) (by decide), List.forall_mem_cons.mpr ⟨jc_X0_460 (jt_X0_take l) (fun as g M Po (h : js_X0_take as g M Po) => by unfold js_X0_take at h; split at h <;> first | exact h.elim | exact ⟨_, _, _, rfl, rfl⟩) (by decide), fun _ h => absurd h List.not_mem_nil⟩⟩⟩⟩⟩
set_option maxHeartbeats 4000000 in
theorem jt_X0_layOut (l : Launch) : jx_Ct l yX0_layOut (ws_ yX0_layOut cX0_layOut 3 (some .int)) 22 0 0 js_X0_layOut := by
  refine jx_Ct_c (rc := 0) (by decide) rfl (fun D as g M Po hS => ?_)
  unfold js_X0_layOut at hS
  split at hS
  · rename_i n1 x
    obtain ⟨S, ⟨hx, hR, hE, hB, ht⟩, hN, hY⟩ := hS
    have h9 := hB.1
    have r5 := hR.1
    refine ⟨Nat.le_of_ble_eq_true rfl, ?_⟩
    have lr := mm_lwW hB
    have at19 : ¬ mm_ready S → jx_V D l (yX0_layOut.cls, cX0_layOut, 3, 0, [], 22, 0, 0, yX0_layOut.name) Po 19 [(60, n1, x), (5, 0, 0), (5, 0, 0)] [(60, n1, x)] (0, 0) g M := by
      intro c
      refine jx_runL (o := jo_X0) (cs := cs_X0_layOut) (hf := jx_nh) jo_X0_ok hc_X0_layOut (jx_HK_nil rfl) (fun _ => false) 20 ?_
      simp only [jw, ju, jx_tg, Int.cast_ofNat_Int, Int.reduceAdd, Int.reduceToNat, Nat.reduceAdd, Nat.reduceMul, Nat.reduceBEq, Nat.reduceLeDiff, Int.reduceLE, Int.reduceLT, Int.reduceEq, Int.reduceNeg, Int.reduceSub, Int.reduceMul, not_false_eq_true, true_and, and_true, and_self, Bool.or_false, Bool.false_or, Bool.or_true, Bool.true_or, List.length_nil, List.length_cons, Nat.zero_le, or_true, true_or, Nat.le_refl, ↓reduceIte, Nat.reduceEqDiff, forall_const, false_and, and_false, false_implies, implies_true, not_true_eq_false, or_false, false_or, ne_eq, jd_X0_layOut, jf_X0, js_X0_isWhole, js_X0_lowestBeat, js_X0_need, js_X0_search, js_X0_take, cs_X0_layOut, jx_ck_c]
      rw [show x + 49 - -2 = x + 51 by omega]
      exact ⟨by decide, hN c⟩
    have loop : mm_ready S → ∀ (q : Nat) (b : Int) (f : Nat) (M' : jx_M), b + q = 61 → (f : Int) + b = 61 + mm_lw S → 1 ≤ b → (0 ≤ M' x 34 ∧ M' x 34 ≤ 3000) → xTf x M M' → M' x 35 = 0 → ms_lay S 61 (mm_lw S) 0 = ms_lay S f b (M' x 34) → jx_V D l (yX0_layOut.cls, cX0_layOut, 3, 0, [], 22, 0, 0, yX0_layOut.name) Po 52 [(60, n1, x), (0, 0, mm_lw S), (0, 0, b)] [] (0, 0) g (M') := by
      intro hr q
      have hY1 := hY hr
      induction q with
      | zero =>
        intro b f M' hb hf b1 k0 k1 k2 k3
        obtain ⟨f', rfl⟩ : ∃ f', f = f' + 1 := ⟨f - 1, by omega⟩
        rw [ms_lay_hi (S := S) (f := f') (b := b) (tr := M' x 34) (by omega)] at k3
        have hp := hY1.2.2 M' (by rw [k3]) k1 (by rw [k3])
        refine jx_runL (o := jo_X0) (cs := cs_X0_layOut) (hf := jx_nh) jo_X0_ok hc_X0_layOut (jx_HK_nil rfl) (fun p => p == 58 || p == 104) 30 ?_
        simp only [jw, ju, jx_tg, Int.cast_ofNat_Int, Int.reduceAdd, Int.reduceToNat, Nat.reduceAdd, Nat.reduceMul, Nat.reduceBEq, Nat.reduceLeDiff, Int.reduceLE, Int.reduceLT, Int.reduceEq, Int.reduceNeg, Int.reduceSub, Int.reduceMul, not_false_eq_true, true_and, and_true, and_self, Bool.or_false, Bool.false_or, Bool.or_true, Bool.true_or, List.length_nil, List.length_cons, Nat.zero_le, or_true, true_or, Nat.le_refl, ↓reduceIte, Nat.reduceEqDiff, forall_const, false_and, and_false, false_implies, implies_true, not_true_eq_false, or_false, false_or, ne_eq, jd_X0_layOut, jf_X0, js_X0_isWhole, js_X0_lowestBeat, js_X0_need, js_X0_search, js_X0_take, cs_X0_layOut, jx_ck_c]
        refine ⟨by omega, fun c => ?_, fun c => by omega⟩
        refine jx_rng fun _ hs => ?_
        have hg := jx_okk (hs _ List.mem_cons_self) (by decide) (by decide)
        rw [show x + 58 = x + 1 + (48 + 9) by omega] at hp
        refine jx_s_athrow (hf := jx_nh) (jx_HK_nil rfl) (by decide +kernel) (by decide) hg ?_
        exact hp
      | succ q iq =>
        intro b f M' hb hf b1 k0 k1 k2 k3
        obtain ⟨f', rfl⟩ : ∃ f', f = f' + 1 := ⟨f - 1, by omega⟩
        have rb' : rBd x S g M' := rBd_c h9.2 hR (fun z k w => k1 z k (by unfold qBd at w; omega) (by unfold qBd at w; omega))
        have re' : rEd x S M' := rEd_c hE (fun z k w => k1 z k (by unfold qEd at w; omega) (by unfold qEd at w; omega))
        have s9 : 0 < S 0 9 := hr.1
        refine jx_runL (o := jo_X0) (cs := cs_X0_layOut) (hf := jx_nh) jo_X0_ok hc_X0_layOut (jx_HK_nil rfl) (fun p => p == 66 || p == 73 || p == 97) 40 ?_
        simp only [jw, ju, jx_tg, Int.cast_ofNat_Int, Int.reduceAdd, Int.reduceToNat, Nat.reduceAdd, Nat.reduceMul, Nat.reduceBEq, Nat.reduceLeDiff, Int.reduceLE, Int.reduceLT, Int.reduceEq, Int.reduceNeg, Int.reduceSub, Int.reduceMul, not_false_eq_true, true_and, and_true, and_self, Bool.or_false, Bool.false_or, Bool.or_true, Bool.true_or, List.length_nil, List.length_cons, Nat.zero_le, or_true, true_or, Nat.le_refl, ↓reduceIte, Nat.reduceEqDiff, forall_const, false_and, and_false, false_implies, implies_true, not_true_eq_false, or_false, false_or, ne_eq, jd_X0_layOut, jf_X0, js_X0_isWhole, js_X0_lowestBeat, js_X0_need, js_X0_search, js_X0_take, cs_X0_layOut, jx_ck_c]
        refine ⟨by omega, fun c => by omega, fun c => ⟨S, ⟨hx, rb', re', hB, by omega, by omega, k0, k2⟩, fun M1 F s1 s2 s3 s4 s5 s6 s7 s8 => ?_, fun M1 s1 s2 s3 s4 => ?_⟩⟩
        · rw [ms_lay_x (S := S) (f := f') (b := b) (tr := M' x 34) (by omega) (by rw [s4]; decide)] at k3
          have f1 : xTf x M M1 := fun z k q1 q2 => (s1 z k (by omega) (by omega) (by omega) (by omega) q2).trans (k1 z k q1 q2)
          have e5 : M1 x 5 = S 0 9 := by rw [f1 _ _ (by omega) (by omega)]; exact r5
          refine jx_runL (o := jo_X0) (cs := cs_X0_layOut) (hf := jx_nh) jo_X0_ok hc_X0_layOut (jx_HK_nil rfl) (fun _ => false) 30 ?_
          simp only [jw, ju, jx_tg, Int.cast_ofNat_Int, Int.reduceAdd, Int.reduceToNat, Nat.reduceAdd, Nat.reduceMul, Nat.reduceBEq, Nat.reduceLeDiff, Int.reduceLE, Int.reduceLT, Int.reduceEq, Int.reduceNeg, Int.reduceSub, Int.reduceMul, not_false_eq_true, true_and, and_true, and_self, Bool.or_false, Bool.false_or, Bool.or_true, Bool.true_or, List.length_nil, List.length_cons, Nat.zero_le, or_true, true_or, Nat.le_refl, ↓reduceIte, Nat.reduceEqDiff, forall_const, false_and, and_false, false_implies, implies_true, not_true_eq_false, or_false, false_or, ne_eq, jd_X0_layOut, jf_X0, e5, js_X0_isWhole, js_X0_lowestBeat, js_X0_need, js_X0_search, js_X0_take, cs_X0_layOut, jx_ck_c]
          refine ⟨h9, fun M2 t1 t2 t3 t4 => ?_⟩
          have hst := ms_st_eq s7
          have key := hY1.1 M2 (by rw [k3]; exact s4) (fun z k q1 q2 => (t1 z k (by omega) (by omega)).trans (f1 z k (by omega) (by omega))) t2 (by rw [k3]; exact t3) (by rw [k3, t1 _ _ (by omega) (by omega)]; exact s3) (fun a a0 a1 => by
            have e := t4 a a0 a1
            rw [k3]
            dsimp only
            rw [hst.2 a a0 a1, ← s8 a a0 a1, ← (s6 a a0 a1).1]
            exact e)
          rw [k3] at key
          exact key
        · have f1 : xTf x M M1 := fun z k q1 q2 => (s1 z k (by omega) (by omega) (by omega) (by omega) q2).trans (k1 z k q1 q2)
          rcases s4 with ⟨s4, s5⟩ | ⟨s4, s5⟩
          · rw [ms_lay_3 (S := S) (f := f') (b := b) (tr := M' x 34) (by omega) s4, ← s3] at k3
            refine jx_runL (o := jo_X0) (cs := cs_X0_layOut) (hf := jx_nh) jo_X0_ok hc_X0_layOut (jx_HK_nil rfl) (fun p => p == 52 || p == 85) 30 ?_
            simp only [jw, ju, jx_tg, Int.cast_ofNat_Int, Int.reduceAdd, Int.reduceToNat, Nat.reduceAdd, Nat.reduceMul, Nat.reduceBEq, Nat.reduceLeDiff, Int.reduceLE, Int.reduceLT, Int.reduceEq, Int.reduceNeg, Int.reduceSub, Int.reduceMul, not_false_eq_true, true_and, and_true, and_self, Bool.or_false, Bool.false_or, Bool.or_true, Bool.true_or, List.length_nil, List.length_cons, Nat.zero_le, or_true, true_or, Nat.le_refl, ↓reduceIte, Nat.reduceEqDiff, forall_const, false_and, and_false, false_implies, implies_true, not_true_eq_false, or_false, false_or, ne_eq, jd_X0_layOut, jf_X0, s5, js_X0_isWhole, js_X0_lowestBeat, js_X0_need, js_X0_search, js_X0_take, cs_X0_layOut, jx_ck_c]
            refine ⟨by decide, ?_⟩
            exact iq (b + 1) f' M1 (by omega) (by omega) (by omega) (by omega) f1 s5 k3
          · rw [ms_lay_x (S := S) (f := f') (b := b) (tr := M' x 34) (by omega) (by rw [s4]; decide)] at k3
            refine jx_runL (o := jo_X0) (cs := cs_X0_layOut) (hf := jx_nh) jo_X0_ok hc_X0_layOut (jx_HK_nil rfl) (fun p => p == 81) 30 ?_
            simp only [jw, ju, jx_tg, Int.cast_ofNat_Int, Int.reduceAdd, Int.reduceToNat, Nat.reduceAdd, Nat.reduceMul, Nat.reduceBEq, Nat.reduceLeDiff, Int.reduceLE, Int.reduceLT, Int.reduceEq, Int.reduceNeg, Int.reduceSub, Int.reduceMul, not_false_eq_true, true_and, and_true, and_self, Bool.or_false, Bool.false_or, Bool.or_true, Bool.true_or, List.length_nil, List.length_cons, Nat.zero_le, or_true, true_or, Nat.le_refl, ↓reduceIte, Nat.reduceEqDiff, forall_const, false_and, and_false, false_implies, implies_true, not_true_eq_false, or_false, false_or, ne_eq, jd_X0_layOut, jf_X0, s5, js_X0_isWhole, js_X0_lowestBeat, js_X0_need, js_X0_search, js_X0_take, cs_X0_layOut, jx_ck_c]
            have hp := hY1.2.1 M1 (by rw [k3]; exact s4) f1 (by rw [k3]; exact s3)
            rw [show x + 49 - -11 = x + 60 by omega]
            exact ⟨by decide, hp⟩
    have at25 : mm_ready S → jx_V D l (yX0_layOut.cls, cX0_layOut, 3, 0, [], 22, 0, 0, yX0_layOut.name) Po 25 [(60, n1, x), (5, 0, 0), (5, 0, 0)] [] (0, 0) g (M) := by
      intro hr
      have hY1 := hY hr
      refine jx_runL (o := jo_X0) (cs := cs_X0_layOut) (hf := jx_nh) jo_X0_ok hc_X0_layOut (jx_HK_nil rfl) (fun p => p == 30) 40 ?_
      simp only [jw, ju, jx_tg, Int.cast_ofNat_Int, Int.reduceAdd, Int.reduceToNat, Nat.reduceAdd, Nat.reduceMul, Nat.reduceBEq, Nat.reduceLeDiff, Int.reduceLE, Int.reduceLT, Int.reduceEq, Int.reduceNeg, Int.reduceSub, Int.reduceMul, not_false_eq_true, true_and, and_true, and_self, Bool.or_false, Bool.false_or, Bool.or_true, Bool.true_or, List.length_nil, List.length_cons, Nat.zero_le, or_true, true_or, Nat.le_refl, ↓reduceIte, Nat.reduceEqDiff, forall_const, false_and, and_false, false_implies, implies_true, not_true_eq_false, or_false, false_or, ne_eq, jd_X0_layOut, jf_X0, js_X0_isWhole, js_X0_lowestBeat, js_X0_need, js_X0_search, js_X0_take, cs_X0_layOut, jx_ck_c]
      refine ⟨S, ⟨hx, hR, hE, hB⟩, fun M' k1 => ?_⟩
      have f1 : xTf x M M' := fun z k q1 q2 => k1 z k (by omega)
      have e34 : M' x 34 = 0 := by rw [k1 _ _ (by omega)]; exact ht
      by_cases cl : mm_lw S ≤ 60
      · rw [if_pos cl]
        refine jx_runL (o := jo_X0) (cs := cs_X0_layOut) (hf := jx_nh) jo_X0_ok hc_X0_layOut (jx_HK_nil rfl) (fun p => p == 39 || p == 52) 40 ?_
        simp only [jw, ju, jx_tg, Int.cast_ofNat_Int, Int.reduceAdd, Int.reduceToNat, Nat.reduceAdd, Nat.reduceMul, Nat.reduceBEq, Nat.reduceLeDiff, Int.reduceLE, Int.reduceLT, Int.reduceEq, Int.reduceNeg, Int.reduceSub, Int.reduceMul, not_false_eq_true, true_and, and_true, and_self, Bool.or_false, Bool.false_or, Bool.or_true, Bool.true_or, List.length_nil, List.length_cons, Nat.zero_le, or_true, true_or, Nat.le_refl, ↓reduceIte, Nat.reduceEqDiff, forall_const, false_and, and_false, false_implies, implies_true, not_true_eq_false, or_false, false_or, ne_eq, jd_X0_layOut, jf_X0, js_X0_isWhole, js_X0_lowestBeat, js_X0_need, js_X0_search, js_X0_take, cs_X0_layOut, jx_ck_c]
        refine ⟨by omega, fun c => by omega, fun c => ⟨by decide, ?_⟩⟩
        have f2 : xTf x M (jx_u M' x 35 0) := fun z k q1 q2 => by rw [show jx_u M' x 35 0 z k = M' z k from if_neg (by omega)]; exact f1 z k q1 q2
        have g34 : jx_u M' x 35 0 x 34 = 0 := by rw [jx_u_j _ _ _ _ _ _ (by decide)]; exact e34
        exact loop hr (61 - mm_lw S).toNat (mm_lw S) 61 _ (by omega) (by omega) lr (by rw [g34]; decide) f2 (jx_u_eq _ _ _ _) (by rw [g34])
      · rw [if_neg cl]
        have el : ms_lay S 61 (mm_lw S) 0 = (3, mm_lw S, 0, fun _ => 0) := ms_lay_hi (f := 60) (by omega)
        have hp := hY1.2.2 M' (by rw [el]) f1 (by rw [el]; exact e34)
        refine jx_runL (o := jo_X0) (cs := cs_X0_layOut) (hf := jx_nh) jo_X0_ok hc_X0_layOut (jx_HK_nil rfl) (fun p => p == 35) 40 ?_
        simp only [jw, ju, jx_tg, Int.cast_ofNat_Int, Int.reduceAdd, Int.reduceToNat, Nat.reduceAdd, Nat.reduceMul, Nat.reduceBEq, Nat.reduceLeDiff, Int.reduceLE, Int.reduceLT, Int.reduceEq, Int.reduceNeg, Int.reduceSub, Int.reduceMul, not_false_eq_true, true_and, and_true, and_self, Bool.or_false, Bool.false_or, Bool.or_true, Bool.true_or, List.length_nil, List.length_cons, Nat.zero_le, or_true, true_or, Nat.le_refl, ↓reduceIte, Nat.reduceEqDiff, forall_const, false_and, and_false, false_implies, implies_true, not_true_eq_false, or_false, false_or, ne_eq, jd_X0_layOut, jf_X0, js_X0_isWhole, js_X0_lowestBeat, js_X0_need, js_X0_search, js_X0_take, cs_X0_layOut, jx_ck_c]
        rw [show x + 49 - -9 = x + 58 by omega]
        exact ⟨by decide, hp⟩
    refine jx_runL (o := jo_X0) (cs := cs_X0_layOut) (hf := jx_nh) jo_X0_ok hc_X0_layOut (jx_HK_nil rfl) (fun p => p == 19 || p == 25) 40 ?_
    simp only [jw, ju, jx_tg, Int.cast_ofNat_Int, Int.reduceAdd, Int.reduceToNat, Nat.reduceAdd, Nat.reduceMul, Nat.reduceBEq, Nat.reduceLeDiff, Int.reduceLE, Int.reduceLT, Int.reduceEq, Int.reduceNeg, Int.reduceSub, Int.reduceMul, not_false_eq_true, true_and, and_true, and_self, Bool.or_false, Bool.false_or, Bool.or_true, Bool.true_or, List.length_nil, List.length_cons, Nat.zero_le, or_true, true_or, Nat.le_refl, ↓reduceIte, Nat.reduceEqDiff, forall_const, false_and, and_false, false_implies, implies_true, not_true_eq_false, or_false, false_or, ne_eq, jd_X0_layOut, jf_X0, r5, js_X0_isWhole, js_X0_lowestBeat, js_X0_need, js_X0_search, js_X0_take, cs_X0_layOut, jx_ck_c]
    refine ⟨by omega, fun c => at19 (fun z => by have := z.1; omega), fun c => ⟨S, ⟨hx, hR, hB⟩, fun c2 => ⟨by decide, at25 ⟨by omega, c2⟩⟩, fun c2 => at19 (fun z => c2 z.2)⟩⟩
  · exact hS.elim
theorem mu_lay_c {S : jx_M} {b tr : Int} {T F : Int → Int} : (∀ k, k ≠ 27 → k ≠ 32 → mu_lay S b tr T F 0 k = S 0 k) ∧ mu_lay S b tr T F 0 27 = b ∧ mu_lay S b tr T F 0 32 = tr ∧ (∀ j, j ≠ 0 → ¬ (24 ≤ j ∧ j ≤ 27) → mu_lay S b tr T F j = S j) ∧ ∀ a, 0 ≤ a → a < S 0 9 → mu_lay S b tr T F 24 a = T a ∧ mu_lay S b tr T F 25 a = F a ∧ mu_lay S b tr T F 26 a = b * F a + T a ∧ mu_lay S b tr T F 27 a = b * F a + T a := by
  unfold mu_lay
  refine ⟨fun k h1 h2 => by rw [if_pos rfl, if_neg h1, if_neg h2], by rw [if_pos rfl, if_pos rfl], by rw [if_pos rfl, if_neg (by decide), if_pos rfl], fun j h1 h2 => funext fun k => by rw [if_neg h1, if_neg (by omega)], fun a a0 a1 => ⟨?_, ?_, ?_, ?_⟩⟩
  · rw [if_neg (by decide), if_pos (by omega), if_pos rfl]
  · rw [if_neg (by decide), if_pos (by omega), if_neg (by decide), if_pos rfl]
  · rw [if_neg (by decide), if_pos (by omega), if_neg (by decide), if_neg (by decide)]
  · rw [if_neg (by decide), if_pos (by omega), if_neg (by decide), if_neg (by decide)]
def js_X0_lay : jx_Sp := fun as g M Po => match as with
  | [(60, _, x)] => ∃ S, (rR x S g M ∧ mW S) ∧ rK x g M Po 0 (f_lay S).1 (f_lay S).2
  | _ => False
def cs_X0_lay : jx_Cs := [(1386, 1, 0, 0, js_X0_layOut), (1161, 2, 0, 0, js_X0_refuse)]
theorem hc_X0_lay {D : jx_D} {l : Launch} : jx_CsOK D l "LoopLane" 23 cs_X0_lay := List.forall_mem_cons.mpr ⟨jc_X0_462 (jt_X0_layOut l) (fun as g M Po (h : js_X0_layOut as g M Po) => by unfold js_X0_layOut at h; split at h <;> first | exact h.elim | exact ⟨_, _, _, rfl, rfl⟩) (by decide), List.forall_mem_cons.mpr ⟨jc_X0_387 (jt_X0_refuse l) (fun as g M Po (h : js_X0_refuse as g M Po) => by unfold js_X0_refuse at h; split at h <;> first | exact h.elim | exact ⟨_, _, _, rfl, rfl⟩) (by decide), fun _ h => absurd h List.not_mem_nil⟩⟩
abbrev th_X0_lay : List (Nat × Nat × Nat × Nat) := [(5, 9, 10, 315)]
theorem jh_X0_lay : jx_hf th_X0_lay 6 1 = none ∧ jx_hf th_X0_lay 6 2 = none ∧ jx_hf th_X0_lay 6 3 = none ∧ jx_hf th_X0_lay 6 4 = none ∧ jx_hf th_X0_lay 6 5 = none ∧ jx_hf th_X0_lay 6 6 = some 10 ∧ jx_hf th_X0_lay 16 1 = none ∧ jx_hf th_X0_lay 16 2 = none ∧ jx_hf th_X0_lay 16 3 = none ∧ jx_hf th_X0_lay 16 4 = none ∧ jx_hf th_X0_lay 16 5 = none ∧ jx_hf th_X0_lay 16 6 = none := by refine ⟨?_, ?_, ?_, ?_, ?_, ?_, ?_, ?_, ?_, ?_, ?_, ?_⟩ <;> rfl
theorem jk_X0_lay : ∀ q ∈ th_X0_lay, jx_ct q.2.2.2 := by unfold th_X0_lay; simp [jx_ct]
set_option maxHeartbeats 4000000 in
theorem jt_X0_lay (l : Launch) : jx_Ct l yX0_lay (wsW_ yX0_lay cX0_lay 2 (some .int) th_X0_lay) 23 0 0 js_X0_lay := by
  refine jx_Ct_w (rc := 0) (by decide) rfl (fun D as g M Po hS => ?_)
  unfold js_X0_lay at hS
  split at hS
  · rename_i n1 x
    obtain ⟨S, ⟨hR, hW⟩, hK⟩ := hS
    have hB := hW.1
    have h9 := hB.1
    have x0 := hR.1.1
    unfold f_lay at hK
    simp only [rK_ite] at hK
    refine ⟨Nat.le_of_ble_eq_true rfl, ?_⟩
    obtain ⟨M0, hM0⟩ : ∃ q, q = jx_u M x 34 0 := ⟨_, rfl⟩
    have f0 : xTf x M M0 := fun z k _ h => by rw [hM0]; exact if_neg (by omega)
    have e34 : M0 x 34 = 0 := by rw [hM0, jx_u_eq]
    have rb0 : rBd x S g M0 := rBd_c h9.2 hR.2.1 (fun z k w => f0 z k (by unfold qBd at w; omega) (by unfold qBd at w; omega))
    have re0 : rEd x S M0 := rEd_c hR.2.2.1 (fun z k w => f0 z k (by unfold qEd at w; omega) (by unfold qEd at w; omega))
    have at10 : ∀ (M' : jx_M) (z k tr : Int), 1 ≤ k → k ≤ 11 → z = x + 49 + k → xTf x M M' → M' x 34 = tr → rK x g M Po 0 (-k) (mu_no (jx_u S 0 32 tr) 0 (-k)) → jx_V D l (yX0_lay.cls, cX0_lay, 2, 0, th_X0_lay, 23, 0, 0, yX0_lay.name) Po 10 [(60, n1, x), (5, 0, 0)] [(64, 0, z)] (0, 0) g M' := by
      intro M' z k tr k1 k2 hz f1 h34 hk
      have R' := rR_tr h9.2 hR f1 h34
      have e6 := R'.2.2.2.2.2.1.2.2.2.2 k k1 k2
      rw [← hz] at e6
      refine jx_runL (o := jo_X0) (cs := cs_X0_lay) (hf := jx_hf th_X0_lay) jo_X0_ok hc_X0_lay (jx_HK_LL rfl jk_X0_lay) (fun _ => false) 20 ?_
      simp only [jw, ju, jx_tg, Int.cast_ofNat_Int, Int.reduceAdd, Int.reduceToNat, Nat.reduceAdd, Nat.reduceMul, Nat.reduceBEq, Nat.reduceLeDiff, Int.reduceLE, Int.reduceLT, Int.reduceEq, Int.reduceNeg, Int.reduceSub, Int.reduceMul, not_false_eq_true, true_and, and_true, and_self, Bool.or_false, Bool.false_or, Bool.or_true, Bool.true_or, List.length_nil, List.length_cons, Nat.zero_le, or_true, true_or, Nat.le_refl, ↓reduceIte, Nat.reduceEqDiff, forall_const, false_and, and_false, false_implies, implies_true, not_true_eq_false, or_false, false_or, ne_eq, jd_X0_lay, jf_X0, e6, js_X0_layOut, js_X0_refuse, cs_X0_lay, jx_ck_c, jh_X0_lay, jx_ex]
      exact ⟨by omega, rK_no (by rw [jx_u_j _ _ _ _ _ _ (by decide)]; exact h9.2) (by omega) R' (xTf_F f1) hk⟩
    refine jx_runL (o := jo_X0) (cs := cs_X0_lay) (hf := jx_hf th_X0_lay) jo_X0_ok hc_X0_lay (jx_HK_LL rfl jk_X0_lay) (fun p => p == 5) 20 ?_
    simp only [jw, ju, jx_tg, Int.cast_ofNat_Int, Int.reduceAdd, Int.reduceToNat, Nat.reduceAdd, Nat.reduceMul, Nat.reduceBEq, Nat.reduceLeDiff, Int.reduceLE, Int.reduceLT, Int.reduceEq, Int.reduceNeg, Int.reduceSub, Int.reduceMul, not_false_eq_true, true_and, and_true, and_self, Bool.or_false, Bool.false_or, Bool.or_true, Bool.true_or, List.length_nil, List.length_cons, Nat.zero_le, or_true, true_or, Nat.le_refl, ↓reduceIte, Nat.reduceEqDiff, forall_const, false_and, and_false, false_implies, implies_true, not_true_eq_false, or_false, false_or, ne_eq, jd_X0_lay, jf_X0, js_X0_layOut, js_X0_refuse, cs_X0_lay, jx_ck_c, jh_X0_lay, jx_ex]
    rw [← hM0]
    refine jx_runL (o := jo_X0) (cs := cs_X0_lay) (hf := jx_hf th_X0_lay) jo_X0_ok hc_X0_lay (jx_HK_LL rfl jk_X0_lay) (fun p => p == 10) 20 ?_
    simp only [jw, ju, jx_tg, Int.cast_ofNat_Int, Int.reduceAdd, Int.reduceToNat, Nat.reduceAdd, Nat.reduceMul, Nat.reduceBEq, Nat.reduceLeDiff, Int.reduceLE, Int.reduceLT, Int.reduceEq, Int.reduceNeg, Int.reduceSub, Int.reduceMul, not_false_eq_true, true_and, and_true, and_self, Bool.or_false, Bool.false_or, Bool.or_true, Bool.true_or, List.length_nil, List.length_cons, Nat.zero_le, or_true, true_or, Nat.le_refl, ↓reduceIte, Nat.reduceEqDiff, forall_const, false_and, and_false, false_implies, implies_true, not_true_eq_false, or_false, false_or, ne_eq, jd_X0_lay, jf_X0, js_X0_layOut, js_X0_refuse, cs_X0_lay, jx_ck_c, jh_X0_lay, jx_ex]
    refine ⟨S, ⟨x0, rb0, re0, hB, e34⟩, fun c => at10 M0 _ 2 0 (by decide) (by decide) (by omega) f0 e34 (hK.2 c), fun c => ?_⟩
    have hK2 := hK.1 c
    refine ⟨fun M' l0 l1 l2 l3 l4 l5 => ?_, fun M' l0 l1 l2 => ?_, fun M' l0 l1 l2 => ?_⟩
    · have hk := hK2.1 l0
      obtain ⟨m1, m2, m3, m4, m5⟩ := mu_lay_c (S := S) (b := (ms_lay S 61 (mm_lw S) 0).2.1) (tr := (ms_lay S 61 (mm_lw S) 0).2.2.1) (T := (ms_lay S 61 (mm_lw S) 0).2.2.2) (F := ms_st S (ms_lay S 61 (mm_lw S) 0).2.1 (ms_lay S 61 (mm_lw S) 0).2.2.2)
      obtain ⟨S1, hS1⟩ : ∃ q, q = mu_lay S (ms_lay S 61 (mm_lw S) 0).2.1 (ms_lay S 61 (mm_lw S) 0).2.2.1 (ms_lay S 61 (mm_lw S) 0).2.2.2 (ms_st S (ms_lay S 61 (mm_lw S) 0).2.1 (ms_lay S 61 (mm_lw S) 0).2.2.2) := ⟨_, rfl⟩
      rw [← hS1] at m1 m2 m3 m4 m5 hk
      have z : mZ S S1 := ⟨fun j a b => m4 j (by omega) (by omega), m1 9 (by decide) (by decide), m1 15 (by decide) (by decide)⟩
      have ff : ∀ z k, ¬ (x + 30 ≤ z ∧ z ≤ x + 36) → ¬ (z = x ∧ (k = 25 ∨ k = 26 ∨ k = 30 ∨ k = 34 ∨ k = 35)) → M' z k = M z k := fun z k q1 q2 => (l1 z k q1 q2).trans (f0 z k (by omega) (by omega))
      refine hk g M' ⟨hR.1, rBd_c (by rw [m1 9 (by decide) (by decide)]; exact h9.2) (rBd_Z z hR.2.1) (fun z k w => ff z k (by unfold qBd at w; omega) (by unfold qBd at w; omega)), rEd_c (rEd_Z z hR.2.2.1) (fun z k w => ff z k (by unfold qEd at w; omega) (by unfold qEd at w; omega)), ?_, ?_, ?_, ?_⟩ ⟨rG_rf, fun z i w => ff z i (by omega) (by omega)⟩
      · refine ⟨?_, fun _ => ⟨by rw [m2]; exact l3, fun a a0 a1 => ?_⟩⟩
        · rw [l2, m2, if_neg ?_]
          have br := ms_lay_b hB l0
          omega
        · rw [m1 9 (by decide) (by decide)] at a1
          have e := l5 a a0 a1
          have e' := m5 a a0 a1
          rw [e'.1, e'.2.1, e'.2.2.2]
          exact e
      · exact rRs_S (rRs_c hR.2.2.2.2.1 (fun z k w => ff z k (by unfold qRs at w; omega) (by unfold qRs at w; omega))) (fun k _ _ => m1 k (by omega) (by omega)) (m1 _ (by decide) (by decide)) (m4 _ (by decide) (by decide))
      · obtain ⟨a1, a2, a3, a4, a5⟩ := hR.2.2.2.2.2.1
        exact ⟨by rw [m3]; exact l4, by rw [ff _ _ (by omega) (by omega), m1 _ (by decide) (by decide)]; exact a2, fun k k0 k1 => by rw [ff _ _ (by omega) (by omega), m4 23 (by decide) (by decide)]; exact a3 k k0 k1, fun k k0 k1 => by rw [ff _ _ (by omega) (by omega), m4 31 (by decide) (by decide)]; exact a4 k k0 k1, fun k k0 k1 => by rw [ff _ _ (by omega) (by omega)]; exact a5 k k0 k1⟩
      · exact rSl_S (rSl_c hR.2.2.2.2.2.2 (fun z k w => ff z k (by unfold qSl at w; omega) (by unfold qSl at w; omega))) (m4 _ (by decide) (by decide)) (m4 _ (by decide) (by decide)) (m4 _ (by decide) (by decide))
    · exact at10 M' _ 11 _ (by decide) (by decide) (by omega) (fun z k q1 q2 => (l1 z k q1 q2).trans (f0 z k q1 q2)) l2 ((hK2.2 (by rw [l0]; decide)).1 l0)
    · exact at10 M' _ 9 _ (by decide) (by decide) (by omega) (fun z k q1 q2 => (l1 z k q1 q2).trans (f0 z k q1 q2)) l2 ((hK2.2 (by rw [l0]; decide)).2 (by rw [l0]; decide))
  · exact hS.elim
