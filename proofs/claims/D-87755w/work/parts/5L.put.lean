/-! LoopLane: put, reckoning, reckon -/
set_option maxRecDepth 100000
theorem aS_num {S S1 : jx_M} {q s v w : Int} {o d : Int → Int} (h : aS S S1 q s v o d) : aS S (jx_u S1 9 (S 0 9) w) q s w o d := by
  obtain ⟨⟨h1, h2, h3, h4⟩, ha, hk, he, ⟨n1, n2, n3, n4, n5, n8, n9⟩, hi⟩ := h
  refine ⟨⟨?_, ?_, ?_, ?_⟩, fun a c => ?_, fun k c => ?_, ?_, ⟨?_, ?_, ?_, ?_, ?_, ?_, jx_u_eq _ _ _ _⟩, fun i i0 i1 => ?_⟩
  · rw [jx_u_a _ _ _ _ _ _ (by decide)]; exact h1
  · rw [jx_u_a _ _ _ _ _ _ (by decide)]; exact h2
  · rw [jx_u_a _ _ _ _ _ _ (by decide)]; exact h3
  · rw [jx_u_a _ _ _ _ _ _ (by decide)]; exact h4
  · rw [jx_u_a _ _ _ _ _ _ (by decide), jx_u_a _ _ _ _ _ _ (by decide), jx_u_a _ _ _ _ _ _ (by decide), jx_u_a _ _ _ _ _ _ (by decide), jx_u_a _ _ _ _ _ _ (by decide), jx_u_a _ _ _ _ _ _ (by decide), jx_u_j _ _ _ _ _ _ c]; exact ha a c
  · rw [jx_u_a _ _ _ _ _ _ (by decide), jx_u_a _ _ _ _ _ _ (by decide)]; exact hk k c
  · rw [jx_u_row (by decide), jx_u_row (by decide), jx_u_row (by decide), jx_u_row (by decide), jx_u_row (by decide), jx_u_row (by decide), jx_u_row (by decide), jx_u_row (by decide), jx_u_row (by decide), jx_u_row (by decide)]; exact he
  · rw [jx_u_a _ _ _ _ _ _ (by decide)]; exact n1
  · rw [jx_u_a _ _ _ _ _ _ (by decide)]; exact n2
  · rw [jx_u_a _ _ _ _ _ _ (by decide)]; exact n3
  · rw [jx_u_a _ _ _ _ _ _ (by decide)]; exact n4
  · rw [jx_u_a _ _ _ _ _ _ (by decide)]; exact n5
  · rw [jx_u_a _ _ _ _ _ _ (by decide)]; exact n8
  · rw [jx_u_a _ _ _ _ _ _ (by decide), jx_u_a _ _ _ _ _ _ (by decide)]; exact hi i i0 i1
/-- a refusal of the face -/
theorem rK_no {x w : Int} {S : jx_M} {g g' : jx_S} {M M' : jx_M} {Po : jx_Po} {t : Nat} {r : Int} (hS : S 0 9 ≤ 16) (hw : -11 ≤ w ∧ w ≤ -1) (h : rR x S g' M') (hf : rFr x g M g' M') (hK : rK x g M Po t r (mu_no S 0 w)) : Po (t, 0, r) g' (xu_refuse M' x w) := hK _ _ (rR_no hS hw h) (rFr_no hf)
theorem rK_ite {x : Int} {g : jx_S} {M : jx_M} {Po : jx_Po} {t : Nat} {p : Prop} {_ : Decidable p} {a b : mR} : rK x g M Po t (if p then a else b).1 (if p then a else b).2 ↔ (p → rK x g M Po t a.1 a.2) ∧ (¬ p → rK x g M Po t b.1 b.2) := mm_ite
theorem aM_of {x p q s v : Int} {M Mt : jx_M} {o d : Int → Int} (hp : x + 61 ≤ p) (hf : ∀ z k, ¬ (p ≤ z ∧ z ≤ p + 2) → Mt z k = M z k) (h : Mt p 0 = 1 ∧ Mt p 1 = 0 ∧ Mt p 2 = 1 ∧ Mt p 3 = 0 ∧ Mt p 4 = mm_nop q) (ho : ∀ i, 0 ≤ i → i < mm_nop q → Mt (p + 1) i = o i ∧ Mt (p + 2) i = d i) (hv : q = 0 → Mt p 7 = v) (hs : (q = 4 ∨ q = 5) → Mt p 7 = s) : aM x p q s v o d M (xu_add Mt x p) := by
  have e5 : Mt x 5 = M x 5 := hf x 5 (by omega)
  have ea : ∀ z k, p ≤ z → xu_add Mt x p z k = Mt z k := fun z k hz => by unfold xu_add; rw [jx_u_a _ _ _ _ _ _ (by omega), jx_u_a _ _ _ _ _ _ (by omega)]
  refine ⟨⟨?_, ?_, fun a c => ?_⟩, fun z k q1 q2 q3 => ?_, ?_, fun i i0 i1 => ?_, fun c => ?_, fun c => ?_⟩
  · unfold xu_add; rw [jx_u_eq, e5]
  · unfold xu_add; rw [jx_u_a _ _ _ _ _ _ (by omega), ← e5, jx_u_eq]
  · unfold xu_add; rw [jx_u_a _ _ _ _ _ _ (by omega), jx_u_j _ _ _ _ _ _ (by omega)]; exact hf _ _ (by omega)
  · unfold xu_add
    rw [show jx_u (jx_u Mt (x + 13) (Mt x 5) p) x 5 (Mt x 5 + 1) z k = jx_u Mt (x + 13) (Mt x 5) p z k from if_neg q1, jx_u_a _ _ _ _ _ _ q2]
    exact hf z k q3
  · rw [ea p 0 (by omega), ea p 1 (by omega), ea p 2 (by omega), ea p 3 (by omega), ea p 4 (by omega)]; exact h
  · rw [ea _ i (by omega), ea _ i (by omega)]; exact ho i i0 i1
  · rw [ea _ _ (by omega)]; exact hv c
  · rw [ea _ _ (by omega)]; exact hs c
def js_X0_put : jx_Sp := fun as g M Po => match as with
  | [(60, _, x), (1, _, v)] => ∃ S, (rR x S g M ∧ mW S) ∧ rK x g M Po 0 (f_put v S).1 (f_put v S).2
  | _ => False
def cs_X0_put : jx_Cs := [(1161, 2, 0, 0, js_X0_refuse), (1170, 2, 0, 0, ja_beginP), (1185, 2, 0, 0, ja_added)]
theorem hc_X0_put {D : jx_D} {l : Launch} : jx_CsOK D l "LoopLane" 6 cs_X0_put := List.forall_mem_cons.mpr ⟨jc_X0_387 (jt_X0_refuse l) (fun as g M Po (h : js_X0_refuse as g M Po) => by unfold js_X0_refuse at h; split at h <;> first | exact h.elim | exact ⟨_, _, _, rfl, rfl⟩) (by decide), List.forall_mem_cons.mpr ⟨jz_beginP (by decide), List.forall_mem_cons.mpr ⟨jz_added (by decide), fun _ h => absurd h List.not_mem_nil⟩⟩⟩
set_option maxHeartbeats 4000000 in
theorem jt_X0_put (l : Launch) : jx_Ct l yX0_put (ws_ yX0_put cX0_put 3 (some .int)) 6 0 0 js_X0_put := by
  refine jx_Ct_c (rc := 0) (by decide) rfl (fun D as g M Po hS => ?_)
  unfold js_X0_put at hS
  split at hS
  · rename_i n1 x n2 v
    obtain ⟨S, ⟨hR, hW⟩, hK⟩ := hS
    have hB := hW.1
    have h9 := hB.1
    have x0 := hR.1.1
    have r5 := hR.2.1.1
    unfold f_put at hK
    simp only [rK_ite, mno] at hK
    refine ⟨Nat.le_of_ble_eq_true rfl, ?_⟩
    by_cases c : S 0 9 = 16
    · refine jx_runL (o := jo_X0) (cs := cs_X0_put) (hf := jx_nh) jo_X0_ok hc_X0_put (jx_HK_nil rfl) (fun p => p == 16) 30 ?_
      simp only [jw, ju, jx_tg, Int.cast_ofNat_Int, Int.reduceAdd, Int.reduceToNat, Nat.reduceAdd, Nat.reduceMul, Nat.reduceBEq, Nat.reduceLeDiff, Int.reduceLE, Int.reduceLT, Int.reduceEq, Int.reduceNeg, Int.reduceSub, Int.reduceMul, not_false_eq_true, true_and, and_true, and_self, Bool.or_false, Bool.false_or, Bool.or_true, Bool.true_or, List.length_nil, List.length_cons, Nat.zero_le, or_true, true_or, Nat.le_refl, ↓reduceIte, Nat.reduceEqDiff, forall_const, false_and, and_false, false_implies, implies_true, not_true_eq_false, or_false, false_or, ne_eq, jd_X0_put, jf_X0, r5, ja_added, ja_beginP, js_X0_refuse, cs_X0_put, jx_ck_c]
      exact ⟨by omega, fun c2 => by omega, fun c2 => rK_no h9.2 (by decide) hR rFr_rf (hK.1 c)⟩
    · obtain ⟨p, hp⟩ : ∃ p, p = x + 61 + 21 * S 0 9 + 3 * 0 := ⟨_, rfl⟩
      have ep : x + 14 + (47 + 21 * S 0 9) = p := by omega
      have sh := hR.1.2.2 (S 0 9) 0 h9.1 (by omega) (by decide) (by decide)
      rw [← hp] at sh
      refine jx_runL (o := jo_X0) (cs := cs_X0_put) (hf := jx_nh) jo_X0_ok hc_X0_put (jx_HK_nil rfl) (fun p => p == 29) 30 ?_
      simp only [jw, ju, jx_tg, Int.cast_ofNat_Int, Int.reduceAdd, Int.reduceToNat, Nat.reduceAdd, Nat.reduceMul, Nat.reduceBEq, Nat.reduceLeDiff, Int.reduceLE, Int.reduceLT, Int.reduceEq, Int.reduceNeg, Int.reduceSub, Int.reduceMul, not_false_eq_true, true_and, and_true, and_self, Bool.or_false, Bool.false_or, Bool.or_true, Bool.true_or, List.length_nil, List.length_cons, Nat.zero_le, or_true, true_or, Nat.le_refl, ↓reduceIte, Nat.reduceEqDiff, forall_const, false_and, and_false, false_implies, implies_true, not_true_eq_false, or_false, false_or, ne_eq, jd_X0_put, jf_X0, r5, ep, ja_added, ja_beginP, js_X0_refuse, cs_X0_put, jx_ck_c]
      refine ⟨by omega, fun c2 => ⟨by omega, ⟨⟨by omega, by omega⟩, sh.2, by omega⟩, ?_⟩, fun c2 => by omega⟩
      have e1 : xu_begin M p 0 x 5 = S 0 9 := by unfold xu_begin; simp (disch := omega) only [jx_u_a]; exact r5
      refine jx_runL (o := jo_X0) (cs := cs_X0_put) (hf := jx_nh) jo_X0_ok hc_X0_put (jx_HK_nil rfl) (fun p => p == 42) 30 ?_
      simp only [jw, ju, jx_tg, Int.cast_ofNat_Int, Int.reduceAdd, Int.reduceToNat, Nat.reduceAdd, Nat.reduceMul, Nat.reduceBEq, Nat.reduceLeDiff, Int.reduceLE, Int.reduceLT, Int.reduceEq, Int.reduceNeg, Int.reduceSub, Int.reduceMul, not_false_eq_true, true_and, and_true, and_self, Bool.or_false, Bool.false_or, Bool.or_true, Bool.true_or, List.length_nil, List.length_cons, Nat.zero_le, or_true, true_or, Nat.le_refl, ↓reduceIte, Nat.reduceEqDiff, forall_const, false_and, and_false, false_implies, implies_true, not_true_eq_false, or_false, false_or, ne_eq, jd_X0_put, jf_X0, e1, ep, ja_added, ja_beginP, js_X0_refuse, cs_X0_put, jx_ck_c]
      refine ⟨by omega, ?_⟩
      have e2 : jx_u (xu_begin M p 0) p 7 v x 5 = S 0 9 := by rw [jx_u_a _ _ _ _ _ _ (by omega)]; exact e1
      refine jx_runL (o := jo_X0) (cs := cs_X0_put) (hf := jx_nh) jo_X0_ok hc_X0_put (jx_HK_nil rfl) (fun _ => false) 30 ?_
      simp only [jw, ju, jx_tg, Int.cast_ofNat_Int, Int.reduceAdd, Int.reduceToNat, Nat.reduceAdd, Nat.reduceMul, Nat.reduceBEq, Nat.reduceLeDiff, Int.reduceLE, Int.reduceLT, Int.reduceEq, Int.reduceNeg, Int.reduceSub, Int.reduceMul, not_false_eq_true, true_and, and_true, and_self, Bool.or_false, Bool.false_or, Bool.or_true, Bool.true_or, List.length_nil, List.length_cons, Nat.zero_le, or_true, true_or, Nat.le_refl, ↓reduceIte, Nat.reduceEqDiff, forall_const, false_and, and_false, false_implies, implies_true, not_true_eq_false, or_false, false_or, ne_eq, jd_X0_put, jf_X0, e2, ep, js_X0_added, ja_added, ja_beginP, js_X0_refuse, cs_X0_put, jx_ck_c]
      have hS1 := aS_num (w := v) (aS_add1 (S := S) (w := 0) (s := -1) (x := -1) (dx := -1) (z := -1) (dz := -1) (u := -1) (du := -1) (v := 0) (o := fun _ => -1) (d := fun _ => -1) h9.1 rfl rfl rfl rfl rfl rfl)
      have hM1 : aM x p 0 (-1) v (fun _ => -1) (fun _ => -1) M (xu_add (jx_u (xu_begin M p 0) p 7 v) x p) := by
        refine aM_of (by omega) (fun z k hz => ?_) ⟨?_, ?_, ?_, ?_, ?_⟩ (fun i i0 i1 => ?_) (fun _ => jx_u_eq _ _ _ _) (fun w => by omega)
        · unfold xu_begin; simp (disch := omega) only [jx_u_a]
        · unfold xu_begin; simp (disch := omega) only [jx_u_a, jx_u_j, jx_u_eq]
        · unfold xu_begin; simp (disch := omega) only [jx_u_a, jx_u_j, jx_u_eq]
        · unfold xu_begin; simp (disch := omega) only [jx_u_a, jx_u_j, jx_u_eq]
        · unfold xu_begin; simp (disch := omega) only [jx_u_a, jx_u_j, jx_u_eq]
        · unfold xu_begin; simp (disch := omega) only [jx_u_a, jx_u_j, jx_u_eq]; rfl
        · exact absurd i1 (by show ¬ i < 0; omega)
      refine ⟨by omega, by omega, ⟨⟨⟨by omega, by omega⟩, sh.2, by omega⟩, x0, by omega⟩, _, ⟨rBd_aS hR.1 hR.2.1 hS1 hM1 ⟨h9.1, by omega⟩ (by decide) hp, mB_aS hB hS1 (by omega) (by decide) (by decide) (by decide) (fun i i0 i1 => ⟨fun w => by have : i < 0 := w; omega, fun _ => ⟨rfl, rfl⟩⟩)⟩, fun M' k1 => ?_⟩
      have fin := rR_aS hR hS1 hM1 ⟨h9.1, by omega⟩ (by decide) hp k1
      have hK2 := hK.2 c
      rw [mu_adds_1, mu_changes_u (by decide)] at hK2
      exact hK2 _ _ fin.1 fin.2
  · exact hS.elim
def js_X0_reckoning : jx_Sp := fun as g M Po => match as with
  | [(60, _, x), (0, _, w)] => ((1 ≤ w ∧ w ≤ 3) ∧ (0 ≤ M x 5 ∧ M x 5 < 16) ∧ rSh x g) ∧ Po (80, 0, x + 61 + 21 * M x 5 + 3 * w) g M
  | _ => False
set_option maxHeartbeats 4000000 in
theorem jt_X0_reckoning (l : Launch) : jx_Ct l yX0_reckoning (ws_ yX0_reckoning cX0_reckoning 2 (Option.some (Jvm.ClassFile.FieldType.object "LoopLane$Act"))) 0 0 0 js_X0_reckoning := by
  refine jx_Ct_c (rc := 2) (by decide) (by simp [jx_rt, FieldType.isReference]) (fun D as g M Po hS => ?_)
  unfold js_X0_reckoning at hS
  split at hS
  · rename_i n1 x n2 w
    obtain ⟨⟨h1, h2, h3⟩, hP⟩ := hS
    refine ⟨Nat.le_of_ble_eq_true rfl, ?_⟩
    have sh := h3.2.2 (M x 5) w h2.1 h2.2 (by omega) (by omega)
    have x0 := h3.1
    obtain ⟨p, hp⟩ : ∃ p, p = x + 61 + 21 * M x 5 + 3 * w := ⟨_, rfl⟩
    rw [← hp] at hP sh
    have ret : ∀ t : Nat, 10 ≤ t → jx_V D l (yX0_reckoning.cls, cX0_reckoning, 2, 2, [], 0, 0, 0, yX0_reckoning.name) Po 43 [(60, n1, x), (0, n2, w)] [(t, 0, p)] (0, 0) g M := by
      intro t ht
      refine jx_retag (ls' := [(60, n1, x), (0, n2, w)]) (st' := [(80, 0, p)]) rfl (congrArg (fun v => [v]) ((jx_cv_ref (by decide) (by omega)).trans (jx_cv_ref (by omega) (by omega)).symm)) (fun hl _ => ⟨hl, jx_ok_cons ⟨fun z => (by have z : (80 : Nat) = 1 := z; omega), fun _ => ⟨?_, sh.2⟩, fun _ => (by decide : jx_nr 80)⟩ (fun _ h => absurd h List.not_mem_nil)⟩) ?_
      · simp only [jx_in, ↓reduceIte]
        exact ⟨by omega, by omega⟩
      refine jx_runL (o := jo_X0) (cs := []) (hf := jx_nh) jo_X0_ok jx_cs0 (jx_HK_nil rfl) (fun _ => false) 20 ?_
      simp only [jw, ju, jx_tg, Int.cast_ofNat_Int, Int.reduceAdd, Int.reduceToNat, Nat.reduceAdd, Nat.reduceMul, Nat.reduceBEq, Nat.reduceLeDiff, Int.reduceLE, Int.reduceLT, Int.reduceEq, Int.reduceNeg, Int.reduceSub, Int.reduceMul, not_false_eq_true, true_and, and_true, and_self, Bool.or_false, Bool.false_or, Bool.or_true, Bool.true_or, List.length_nil, List.length_cons, Nat.zero_le, or_true, true_or, Nat.le_refl, ↓reduceIte, Nat.reduceEqDiff, forall_const, false_and, and_false, false_implies, implies_true, not_true_eq_false, or_false, false_or, ne_eq, jd_X0_reckoning, jf_X0]
      exact hP
    refine jx_runL (o := jo_X0) (cs := []) (hf := jx_nh) jo_X0_ok jx_cs0 (jx_HK_nil rfl) (fun p => p == 43) 30 ?_
    simp only [jw, ju, jx_tg, Int.cast_ofNat_Int, Int.reduceAdd, Int.reduceToNat, Nat.reduceAdd, Nat.reduceMul, Nat.reduceBEq, Nat.reduceLeDiff, Int.reduceLE, Int.reduceLT, Int.reduceEq, Int.reduceNeg, Int.reduceSub, Int.reduceMul, not_false_eq_true, true_and, and_true, and_self, Bool.or_false, Bool.false_or, Bool.or_true, Bool.true_or, List.length_nil, List.length_cons, Nat.zero_le, or_true, true_or, Nat.le_refl, ↓reduceIte, Nat.reduceEqDiff, forall_const, false_and, and_false, false_implies, implies_true, not_true_eq_false, or_false, false_or, ne_eq, jd_X0_reckoning, jf_X0]
    refine ⟨by omega, fun c => ⟨by omega, fun c2 => ⟨h2, ?_⟩, fun c2 => ⟨h2, ?_⟩⟩, fun c => ⟨h2, ?_⟩⟩
    · rw [show x + 17 + (53 + 21 * M x 5) = p by omega]; exact ret 69 (by decide)
    · rw [show x + 16 + (51 + 21 * M x 5) = p by omega]; exact ret 68 (by decide)
    · rw [show x + 15 + (49 + 21 * M x 5) = p by omega]; exact ret 67 (by decide)
  · exact hS.elim
