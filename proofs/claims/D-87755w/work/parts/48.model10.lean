/-! the reference, 10: undo, value, does -/
set_option maxRecDepth 100000
/-- told edges that stay where an act goes: how many of the first e, and the memory with them moved up -/
noncomputable def mc_n (p p1 last : Int) (M : jx_M) : Nat → Int
  | 0 => 0
  | e + 1 => @ite _ (M p e ≠ last ∧ M p1 e ≠ last) (Classical.propDecidable _) (mc_n p p1 last M e + 1) (mc_n p p1 last M e)
noncomputable def mc_M (p p1 p2 p3 last : Int) (M : jx_M) : Nat → jx_M
  | 0 => M
  | e + 1 => @ite _ (M p e ≠ last ∧ M p1 e ≠ last) (Classical.propDecidable _) (jx_u (jx_u (jx_u (jx_u (mc_M p p1 p2 p3 last M e) p (mc_n p p1 last M e) (M p e)) p1 (mc_n p p1 last M e) (M p1 e)) p2 (mc_n p p1 last M e) (M p2 e)) p3 (mc_n p p1 last M e) (M p3 e)) (mc_M p p1 p2 p3 last M e)
theorem mc_n_y {p p1 last : Int} {M : jx_M} {e : Nat} (h : M p e ≠ last ∧ M p1 e ≠ last) : mc_n p p1 last M (e + 1) = mc_n p p1 last M e + 1 := if_pos h
theorem mc_n_n {p p1 last : Int} {M : jx_M} {e : Nat} (h : ¬ (M p e ≠ last ∧ M p1 e ≠ last)) : mc_n p p1 last M (e + 1) = mc_n p p1 last M e := if_neg h
theorem mc_M_y {p p1 p2 p3 last : Int} {M : jx_M} {e : Nat} (h : M p e ≠ last ∧ M p1 e ≠ last) : mc_M p p1 p2 p3 last M (e + 1) = jx_u (jx_u (jx_u (jx_u (mc_M p p1 p2 p3 last M e) p (mc_n p p1 last M e) (M p e)) p1 (mc_n p p1 last M e) (M p1 e)) p2 (mc_n p p1 last M e) (M p2 e)) p3 (mc_n p p1 last M e) (M p3 e) := if_pos h
theorem mc_M_n {p p1 p2 p3 last : Int} {M : jx_M} {e : Nat} (h : ¬ (M p e ≠ last ∧ M p1 e ≠ last)) : mc_M p p1 p2 p3 last M (e + 1) = mc_M p p1 p2 p3 last M e := if_neg h
theorem mc_n_r (p p1 last : Int) (M : jx_M) : ∀ e : Nat, 0 ≤ mc_n p p1 last M e ∧ mc_n p p1 last M e ≤ e
  | 0 => ⟨Int.le_refl _, Int.le_refl _⟩
  | e + 1 => by
    have ih := mc_n_r p p1 last M e
    by_cases h : M p e ≠ last ∧ M p1 e ≠ last
    · rw [mc_n_y h]; omega
    · rw [mc_n_n h]; omega
/-- what lies ahead is still as it was; elsewhere nothing changes -/
theorem mc_M_hi (p p1 p2 p3 last : Int) (M : jx_M) : ∀ (e : Nat) (z k : Int), (e : Int) ≤ k → mc_M p p1 p2 p3 last M e z k = M z k
  | 0, z, k, _ => rfl
  | e + 1, z, k, hk => by
    have ih := mc_M_hi p p1 p2 p3 last M e z k (by omega)
    have hr := mc_n_r p p1 last M e
    by_cases h : M p e ≠ last ∧ M p1 e ≠ last
    · rw [mc_M_y h, jx_u_j _ _ _ _ _ _ (by omega), jx_u_j _ _ _ _ _ _ (by omega), jx_u_j _ _ _ _ _ _ (by omega), jx_u_j _ _ _ _ _ _ (by omega), ih]
    · rw [mc_M_n h, ih]
theorem mc_M_off (p p1 p2 p3 last : Int) (M : jx_M) : ∀ (e : Nat) (z k : Int), z ≠ p → z ≠ p1 → z ≠ p2 → z ≠ p3 → mc_M p p1 p2 p3 last M e z k = M z k
  | 0, z, k, _, _, _, _ => rfl
  | e + 1, z, k, h0, h1, h2, h3 => by
    have ih := mc_M_off p p1 p2 p3 last M e z k h0 h1 h2 h3
    by_cases h : M p e ≠ last ∧ M p1 e ≠ last
    · rw [mc_M_y h, jx_u_a _ _ _ _ _ _ h3, jx_u_a _ _ _ _ _ _ h2, jx_u_a _ _ _ _ _ _ h1, jx_u_a _ _ _ _ _ _ h0, ih]
    · rw [mc_M_n h, ih]
theorem mc_n_Y {M : jx_M} {y last : Int} : ∀ e : Nat, mc_n 11 12 last (mY M y) e = mc_n (y + 11) (y + 12) last M e
  | 0 => rfl
  | e + 1 => by
    have ih := @mc_n_Y M y last e
    by_cases h : M (y + 11) e ≠ last ∧ M (y + 12) e ≠ last
    · rw [mc_n_y h, mc_n_y (show mY M y 11 e ≠ last ∧ mY M y 12 e ≠ last from h), ih]
    · rw [mc_n_n h, mc_n_n (show ¬ (mY M y 11 e ≠ last ∧ mY M y 12 e ≠ last) from h), ih]
theorem mc_M_Y {M : jx_M} {y last : Int} : ∀ e : Nat, mY (mc_M (y + 11) (y + 12) (y + 13) (y + 14) last M e) y = mc_M 11 12 13 14 last (mY M y) e
  | 0 => rfl
  | e + 1 => by
    have ih := @mc_M_Y M y last e
    by_cases h : M (y + 11) e ≠ last ∧ M (y + 12) e ≠ last
    · rw [mc_M_y h, mc_M_y (show mY M y 11 e ≠ last ∧ mY M y 12 e ≠ last from h), mc_n_Y]
      simp only [mY_u, ih]
      rfl
    · rw [mc_M_n h, mc_M_n (show ¬ (mY M y 11 e ≠ last ∧ mY M y 12 e ≠ last) from h), ih]
/-- some other act takes the last one -/
def mm_taken (S : jx_M) : Prop := ∃ k, 0 ≤ k ∧ k < 3 * (S 0 9 - 1) ∧ S 6 k = S 0 9 - 1
noncomputable def mu_undo (S : jx_M) : jx_M := mu_changes (jx_u (mc_M 11 12 13 14 (S 0 9 - 1) (jx_u S 0 9 (S 0 9 - 1)) (S 0 15).toNat) 0 15 (mc_n 11 12 (S 0 9 - 1) (jx_u S 0 9 (S 0 9 - 1)) (S 0 15).toNat)) 0
noncomputable def f_undo (S : jx_M) : mR := if S 0 9 = 0 then mno (-2) S else @ite _ (mm_taken S) (Classical.propDecidable _) (mno (-9) S) (S 0 9 - 1, mu_undo S)
theorem mFr_mc {M M' : jx_M} {y last : Int} {e : Nat} (h : mFr y M M') : mFr y M (mc_M (y + 11) (y + 12) (y + 13) (y + 14) last M' e) := fun z i q => by
  rw [mc_M_off _ _ _ _ _ _ _ _ _ (by omega) (by omega) (by omega) (by omega)]
  exact h z i q
def js_X13_undo : jx_Sp := fun as g M Po => match as with
  | [(73, _, y)] => ((0 ≤ M y 9 ∧ M y 9 ≤ 16) ∧ (0 ≤ M y 15 ∧ M y 15 ≤ 40) ∧ (∀ k, 0 ≤ k → k < 3 * M y 9 → -1 ≤ M (y + 6) k ∧ M (y + 6) k ≤ 15) ∧ (∀ e, 0 ≤ e → e < M y 15 → (0 ≤ M (y + 11) e ∧ M (y + 11) e ≤ 16) ∧ (0 ≤ M (y + 12) e ∧ M (y + 12) e ≤ 16))) ∧ mK y g M Po 0 (f_undo (mY M y)).1 (f_undo (mY M y)).2
  | _ => False
def cs_X13_undo : jx_Cs := [(372, 2, 0, 0, js_X13_no), (396, 1, 0, 0, js_X13_changes)]
theorem hc_X13_undo {D : jx_D} {l : Launch} : jx_CsOK D l "LoopLaneModel" 3 cs_X13_undo := List.forall_mem_cons.mpr ⟨jc_X13_124 (jt_X13_no l) (fun as g M Po (h : js_X13_no as g M Po) => by unfold js_X13_no at h; split at h <;> first | exact h.elim | exact ⟨_, _, _, rfl, rfl⟩) (by decide), List.forall_mem_cons.mpr ⟨jc_X13_132 (jt_X13_changes l) (fun as g M Po (h : js_X13_changes as g M Po) => by unfold js_X13_changes at h; split at h <;> first | exact h.elim | exact ⟨_, _, _, rfl, rfl⟩) (by decide), fun _ h => absurd h List.not_mem_nil⟩⟩
set_option maxHeartbeats 4000000 in
theorem jt_X13_undo (l : Launch) : jx_Ct l yX13_undo (ws_ yX13_undo cX13_undo 4 (some .int)) 3 0 0 js_X13_undo := by
  refine jx_Ct_c (rc := 0) (by decide) rfl (fun D as g M Po hS => ?_)
  unfold js_X13_undo at hS
  split at hS
  · rename_i n1 y
    obtain ⟨⟨h1, h2, h3, h4⟩, hK⟩ := hS
    unfold f_undo at hK
    simp only [mK_ite, mno] at hK
    simp only [mY_0] at hK
    refine ⟨Nat.le_of_ble_eq_true rfl, ?_⟩
    have loop2 : ∀ (f e : Nat), (e : Int) + f = M y 15 → M y 9 ≠ 0 → mK y g M Po 0 (M y 9 - 1) (mu_undo (mY M y)) → jx_V D l (yX13_undo.cls, cX13_undo, 4, 0, [], 3, 0, 0, yX13_undo.name) Po 67 [(73, n1, y), (0, 0, M y 9 - 1), (0, 0, mc_n (y + 11) (y + 12) (M y 9 - 1) (jx_u M y 9 (M y 9 - 1)) e), (0, 0, (e : Int))] [] (0, 0) g (mc_M (y + 11) (y + 12) (y + 13) (y + 14) (M y 9 - 1) (jx_u M y 9 (M y 9 - 1)) e) := by
      intro f
      induction f with
      | zero =>
        intro e he h0 hE
        have e15 : mc_M (y + 11) (y + 12) (y + 13) (y + 14) (M y 9 - 1) (jx_u M y 9 (M y 9 - 1)) e y 15 = M y 15 := by
          rw [mc_M_off _ _ _ _ _ _ _ _ _ (by omega) (by omega) (by omega) (by omega), jx_u_j _ _ _ _ _ _ (by omega)]
        have e9 : mc_M (y + 11) (y + 12) (y + 13) (y + 14) (M y 9 - 1) (jx_u M y 9 (M y 9 - 1)) e y 9 = M y 9 - 1 := by
          rw [mc_M_off _ _ _ _ _ _ _ _ _ (by omega) (by omega) (by omega) (by omega), jx_u_eq]
        refine jx_runL (o := jo_X13) (cs := cs_X13_undo) (hf := jx_nh) jo_X13_ok hc_X13_undo (jx_HK_nil rfl) (fun p => p == 67) 60 ?_
        simp only [jw, ju, jx_tg, Int.cast_ofNat_Int, Int.reduceAdd, Int.reduceToNat, Nat.reduceAdd, Nat.reduceMul, Nat.reduceBEq, Nat.reduceLeDiff, Int.reduceLE, Int.reduceLT, Int.reduceEq, Int.reduceNeg, Int.reduceSub, Int.reduceMul, not_false_eq_true, true_and, and_true, and_self, Bool.or_false, Bool.false_or, Bool.or_true, Bool.true_or, List.length_nil, List.length_cons, Nat.zero_le, or_true, true_or, Nat.le_refl, ↓reduceIte, Nat.reduceEqDiff, forall_const, false_and, and_false, false_implies, implies_true, not_true_eq_false, or_false, false_or, ne_eq, jd_X13_undo, jf_X13, e15, js_X13_changes, js_X13_no, cs_X13_undo, jx_ck_c]
        refine ⟨by omega, fun c => ?_, fun c => by omega⟩
        rw [mu_changes_f (by omega), jx_u_j _ _ _ _ _ _ (by omega), e9]
        refine mK_of hE ?_ (mFr_changes (mFr_u0 (mFr_mc (mFr_u0 mFr_rf))))
        unfold mu_undo
        rw [mY_changes, mY_u0, mc_M_Y, mY_u0, mY_0, mY_0, ← mY_u0, mc_n_Y, show (M y 15).toNat = e by omega]
      | succ f ih =>
        intro e he h0 hE
        have hi := fun z => mc_M_hi (y + 11) (y + 12) (y + 13) (y + 14) (M y 9 - 1) (jx_u M y 9 (M y 9 - 1)) e z e (Int.le_refl _)
        have e15 : mc_M (y + 11) (y + 12) (y + 13) (y + 14) (M y 9 - 1) (jx_u M y 9 (M y 9 - 1)) e y 15 = M y 15 := by
          rw [mc_M_off _ _ _ _ _ _ _ _ _ (by omega) (by omega) (by omega) (by omega), jx_u_j _ _ _ _ _ _ (by omega)]
        have e11 : mc_M (y + 11) (y + 12) (y + 13) (y + 14) (M y 9 - 1) (jx_u M y 9 (M y 9 - 1)) e (y + 11) e = M (y + 11) e := by rw [hi, jx_u_a _ _ _ _ _ _ (by omega)]
        have e12 : mc_M (y + 11) (y + 12) (y + 13) (y + 14) (M y 9 - 1) (jx_u M y 9 (M y 9 - 1)) e (y + 12) e = M (y + 12) e := by rw [hi, jx_u_a _ _ _ _ _ _ (by omega)]
        have e13 : mc_M (y + 11) (y + 12) (y + 13) (y + 14) (M y 9 - 1) (jx_u M y 9 (M y 9 - 1)) e (y + 13) e = M (y + 13) e := by rw [hi, jx_u_a _ _ _ _ _ _ (by omega)]
        have e14 : mc_M (y + 11) (y + 12) (y + 13) (y + 14) (M y 9 - 1) (jx_u M y 9 (M y 9 - 1)) e (y + 14) e = M (y + 14) e := by rw [hi, jx_u_a _ _ _ _ _ _ (by omega)]
        have q1 := h4 e (by omega) (by omega)
        have q2 := mc_n_r (y + 11) (y + 12) (M y 9 - 1) (jx_u M y 9 (M y 9 - 1)) e
        have ihe := ih (e + 1) (by omega) h0 hE
        have k11 : jx_u M y 9 (M y 9 - 1) (y + 11) e = M (y + 11) e := jx_u_a _ _ _ _ _ _ (by omega)
        have k12 : jx_u M y 9 (M y 9 - 1) (y + 12) e = M (y + 12) e := jx_u_a _ _ _ _ _ _ (by omega)
        have k13 : jx_u M y 9 (M y 9 - 1) (y + 13) e = M (y + 13) e := jx_u_a _ _ _ _ _ _ (by omega)
        have k14 : jx_u M y 9 (M y 9 - 1) (y + 14) e = M (y + 14) e := jx_u_a _ _ _ _ _ _ (by omega)
        refine jx_runL (o := jo_X13) (cs := cs_X13_undo) (hf := jx_nh) jo_X13_ok hc_X13_undo (jx_HK_nil rfl) (fun p => p == 67) 60 ?_
        simp only [jw, ju, jx_tg, Int.cast_ofNat_Int, Int.reduceAdd, Int.reduceToNat, Nat.reduceAdd, Nat.reduceMul, Nat.reduceBEq, Nat.reduceLeDiff, Int.reduceLE, Int.reduceLT, Int.reduceEq, Int.reduceNeg, Int.reduceSub, Int.reduceMul, not_false_eq_true, true_and, and_true, and_self, Bool.or_false, Bool.false_or, Bool.or_true, Bool.true_or, List.length_nil, List.length_cons, Nat.zero_le, or_true, true_or, Nat.le_refl, ↓reduceIte, Nat.reduceEqDiff, forall_const, false_and, and_false, false_implies, implies_true, not_true_eq_false, or_false, false_or, ne_eq, jd_X13_undo, jf_X13, e15, e11, e12, e13, e14, js_X13_changes, js_X13_no, cs_X13_undo, jx_ck_c]
        refine ⟨by omega, fun c => by omega, fun c => ⟨by omega, by omega, fun c2 => ?_, fun c2 => ⟨by omega, by omega, fun c3 => ⟨by omega, by omega, by omega, by omega, by omega, by omega, by omega, by omega, ?_⟩, fun c3 => ?_⟩⟩⟩
        · rw [mc_n_n (by rw [k11, k12]; omega), mc_M_n (by rw [k11, k12]; omega)] at ihe
          exact ihe
        · rw [mc_n_y (by rw [k11, k12]; omega), mc_M_y (by rw [k11, k12]; omega), k11, k12, k13, k14] at ihe
          exact ihe
        · rw [mc_n_n (by rw [k11, k12]; omega), mc_M_n (by rw [k11, k12]; omega)] at ihe
          exact ihe
    have loop1 : ∀ (f k : Nat), (k : Int) + f = 3 * (M y 9 - 1) → M y 9 ≠ 0 → (∀ i : Int, 0 ≤ i → i < k → M (y + 6) i ≠ M y 9 - 1) → jx_V D l (yX13_undo.cls, cX13_undo, 4, 0, [], 3, 0, 0, yX13_undo.name) Po 23 [(73, n1, y), (0, 0, M y 9 - 1), (0, 0, (k : Int)), (5, 0, 0)] [] (0, 0) g (M) := by
      intro f
      induction f with
      | zero =>
        intro k hk h0 hn
        refine jx_runL (o := jo_X13) (cs := cs_X13_undo) (hf := jx_nh) jo_X13_ok hc_X13_undo (jx_HK_nil rfl) (fun p => p == 23 || p == 67) 60 ?_
        simp only [jw, ju, jx_tg, Int.cast_ofNat_Int, Int.reduceAdd, Int.reduceToNat, Nat.reduceAdd, Nat.reduceMul, Nat.reduceBEq, Nat.reduceLeDiff, Int.reduceLE, Int.reduceLT, Int.reduceEq, Int.reduceNeg, Int.reduceSub, Int.reduceMul, not_false_eq_true, true_and, and_true, and_self, Bool.or_false, Bool.false_or, Bool.or_true, Bool.true_or, List.length_nil, List.length_cons, Nat.zero_le, or_true, true_or, Nat.le_refl, ↓reduceIte, Nat.reduceEqDiff, forall_const, false_and, and_false, false_implies, implies_true, not_true_eq_false, or_false, false_or, ne_eq, jd_X13_undo, jf_X13, js_X13_changes, js_X13_no, cs_X13_undo, jx_ck_c]
        refine ⟨by omega, fun c => ?_, fun c => by omega⟩
        refine loop2 (M y 15).toNat 0 (by omega) h0 ((hK.2 h0).2 ?_)
        rintro ⟨i, i0, i1, i2⟩
        rw [mY_0] at i1 i2
        exact hn i i0 (by omega) i2
      | succ f ih =>
        intro k hk h0 hn
        have := h3 k (by omega) (by omega)
        refine jx_runL (o := jo_X13) (cs := cs_X13_undo) (hf := jx_nh) jo_X13_ok hc_X13_undo (jx_HK_nil rfl) (fun p => p == 23 || p == 67) 60 ?_
        simp only [jw, ju, jx_tg, Int.cast_ofNat_Int, Int.reduceAdd, Int.reduceToNat, Nat.reduceAdd, Nat.reduceMul, Nat.reduceBEq, Nat.reduceLeDiff, Int.reduceLE, Int.reduceLT, Int.reduceEq, Int.reduceNeg, Int.reduceSub, Int.reduceMul, not_false_eq_true, true_and, and_true, and_self, Bool.or_false, Bool.false_or, Bool.or_true, Bool.true_or, List.length_nil, List.length_cons, Nat.zero_le, or_true, true_or, Nat.le_refl, ↓reduceIte, Nat.reduceEqDiff, forall_const, false_and, and_false, false_implies, implies_true, not_true_eq_false, or_false, false_or, ne_eq, jd_X13_undo, jf_X13, js_X13_changes, js_X13_no, cs_X13_undo, jx_ck_c]
        refine ⟨by omega, fun c => by omega, fun c => ⟨by omega, by omega, fun c2 => ?_, fun c2 => ?_⟩⟩
        · refine ih (k + 1) (by omega) h0 (fun i i0 i1 => ?_)
          by_cases z : i = k
          · rw [z]; exact c2
          · exact hn i i0 (by omega)
        · refine mK_no ((hK.2 h0).1 ⟨k, by omega, by rw [mY_0]; omega, ?_⟩)
          rw [mY_0]
          show M (y + 6) k = _
          omega
    refine jx_runL (o := jo_X13) (cs := cs_X13_undo) (hf := jx_nh) jo_X13_ok hc_X13_undo (jx_HK_nil rfl) (fun p => p == 23) 60 ?_
    simp only [jw, ju, jx_tg, Int.cast_ofNat_Int, Int.reduceAdd, Int.reduceToNat, Nat.reduceAdd, Nat.reduceMul, Nat.reduceBEq, Nat.reduceLeDiff, Int.reduceLE, Int.reduceLT, Int.reduceEq, Int.reduceNeg, Int.reduceSub, Int.reduceMul, not_false_eq_true, true_and, and_true, and_self, Bool.or_false, Bool.false_or, Bool.or_true, Bool.true_or, List.length_nil, List.length_cons, Nat.zero_le, or_true, true_or, Nat.le_refl, ↓reduceIte, Nat.reduceEqDiff, forall_const, false_and, and_false, false_implies, implies_true, not_true_eq_false, or_false, false_or, ne_eq, jd_X13_undo, jf_X13, js_X13_changes, js_X13_no, cs_X13_undo, jx_ck_c]
    exact ⟨by omega, fun c => loop1 (3 * (M y 9 - 1)).toNat 0 (by omega) (by omega) (fun i i0 i1 => by omega), fun c => mK_no (hK.1 (by omega))⟩
  · exact hS.elim
