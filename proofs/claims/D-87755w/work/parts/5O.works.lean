/-! LoopLane: works, first, unit, edge -/
set_option maxRecDepth 100000
/-- cells of acts lie apart -/
theorem rA_apart {x a b : Int} {S : jx_M} {g : jx_S} {M : jx_M} (h : rA x S g M a) (h' : rA x S g M b) (hn : a ≠ b) : M (x + 13) b + 2 < M (x + 13) a ∨ M (x + 13) a + 2 < M (x + 13) b := by
  have h1 := h.1
  have h2 := h.2.1
  have h3 := h'.1
  have h4 := h'.2.1
  omega
theorem rBd_works {x a lg un pt : Int} {S : jx_M} {g : jx_S} {M : jx_M} (h9 : S 0 9 ≤ 16) (ha : 0 ≤ a ∧ a < S 0 9) (hR : rBd x S g M) : rBd x (jx_u (jx_u (jx_u S 2 a lg) 3 a un) 4 a pt) g (jx_u (jx_u (jx_u M (M (x + 13) a) 0 lg) (M (x + 13) a) 1 un) (M (x + 13) a) 2 pt) := by
  obtain ⟨S1, hS1⟩ : ∃ S1, S1 = jx_u (jx_u (jx_u S 2 a lg) 3 a un) 4 a pt := ⟨_, rfl⟩
  obtain ⟨M1, hM1⟩ : ∃ M1, M1 = jx_u (jx_u (jx_u M (M (x + 13) a) 0 lg) (M (x + 13) a) 1 un) (M (x + 13) a) 2 pt := ⟨_, rfl⟩
  obtain ⟨r5, r15, ra, ru, rt⟩ := hR
  have Aa := ra a ha.1 ha.2
  have ad := rA_ad Aa ha.1 (by omega)
  have sj : ∀ j k, j ≠ 2 → j ≠ 3 → j ≠ 4 → S1 j k = S j k := fun j k h1 h2 h3 => by rw [hS1, jx_u_a _ _ _ _ _ _ h3, jx_u_a _ _ _ _ _ _ h2, jx_u_a _ _ _ _ _ _ h1]
  have sa : ∀ j k, k ≠ a → S1 j k = S j k := fun j k h => by rw [hS1, jx_u_j _ _ _ _ _ _ h, jx_u_j _ _ _ _ _ _ h, jx_u_j _ _ _ _ _ _ h]
  have mz : ∀ z k, z ≠ M (x + 13) a → M1 z k = M z k := fun z k h => by rw [hM1, jx_u_a _ _ _ _ _ _ h, jx_u_a _ _ _ _ _ _ h, jx_u_a _ _ _ _ _ _ h]
  have mk : ∀ k, 2 < k → M1 (M (x + 13) a) k = M (M (x + 13) a) k := fun k h => by rw [hM1, jx_u_j _ _ _ _ _ _ (by omega), jx_u_j _ _ _ _ _ _ (by omega), jx_u_j _ _ _ _ _ _ (by omega)]
  have m0 : M1 (M (x + 13) a) 0 = lg := by rw [hM1, jx_u_j _ _ _ _ _ _ (by decide), jx_u_j _ _ _ _ _ _ (by decide), jx_u_eq]
  have m1 : M1 (M (x + 13) a) 1 = un := by rw [hM1, jx_u_j _ _ _ _ _ _ (by decide), jx_u_eq]
  have m2 : M1 (M (x + 13) a) 2 = pt := by rw [hM1, jx_u_eq]
  have s2 : S1 2 a = lg := by rw [hS1, jx_u_a _ _ _ _ _ _ (by decide), jx_u_a _ _ _ _ _ _ (by decide), jx_u_eq]
  have s3 : S1 3 a = un := by rw [hS1, jx_u_a _ _ _ _ _ _ (by decide), jx_u_eq]
  have s4 : S1 4 a = pt := by rw [hS1, jx_u_eq]
  rw [← hS1, ← hM1]
  have e13 : ∀ b, M1 (x + 13) b = M (x + 13) b := fun b => mz _ _ (by omega)
  refine ⟨by rw [mz _ _ (by omega), sj 0 9 (by decide) (by decide) (by decide)]; exact r5, by rw [mz _ _ (by omega), sj 0 15 (by decide) (by decide) (by decide)]; exact r15, fun b b0 b1 => ?_, fun k k0 k1 => ?_, fun e e0 e1 => ?_⟩
  · rw [sj 0 9 (by decide) (by decide) (by decide)] at b1
    have Ab := ra b b0 b1
    by_cases c : b = a
    · rw [c]
      unfold rA at Aa ⊢
      rw [e13, sj 1 a (by decide) (by decide) (by decide), sj 8 a (by decide) (by decide) (by decide), sj 9 a (by decide) (by decide) (by decide), sj 5 a (by decide) (by decide) (by decide), s2, s3, s4, m0, m1, m2, mk 3 (by decide), mk 4 (by decide), mk 7 (by decide)]
      refine ⟨Aa.1, Aa.2.1, Aa.2.2.1, rfl, rfl, rfl, Aa.2.2.2.2.2.2.1, Aa.2.2.2.2.2.2.2.1, fun i i0 i1 => ?_, Aa.2.2.2.2.2.2.2.2.2⟩
      rw [mz _ i (by omega), mz _ i (by omega), sj 6 _ (by decide) (by decide) (by decide), sj 7 _ (by decide) (by decide) (by decide)]
      exact Aa.2.2.2.2.2.2.2.2.1 i i0 i1
    · have ap := rA_apart Aa Ab (fun z => c z.symm)
      unfold rA at Ab ⊢
      rw [e13, sj 1 b (by decide) (by decide) (by decide), sj 8 b (by decide) (by decide) (by decide), sj 9 b (by decide) (by decide) (by decide), sj 5 b (by decide) (by decide) (by decide), sa 2 b c, sa 3 b c, sa 4 b c, mz _ 0 (by omega), mz _ 1 (by omega), mz _ 2 (by omega), mz _ 3 (by omega), mz _ 4 (by omega), mz _ 7 (by omega)]
      refine ⟨Ab.1, Ab.2.1, Ab.2.2.1, Ab.2.2.2.1, Ab.2.2.2.2.1, Ab.2.2.2.2.2.1, Ab.2.2.2.2.2.2.1, Ab.2.2.2.2.2.2.2.1, fun i i0 i1 => ?_, Ab.2.2.2.2.2.2.2.2.2⟩
      rw [mz _ i (by omega), mz _ i (by omega), sj 6 _ (by decide) (by decide) (by decide), sj 7 _ (by decide) (by decide) (by decide)]
      exact Ab.2.2.2.2.2.2.2.2.1 i i0 i1
  · rw [mz _ _ (by omega), sj 10 _ (by decide) (by decide) (by decide)]; exact ru k k0 k1
  · rw [sj 0 15 (by decide) (by decide) (by decide)] at e1
    rw [mz _ _ (by omega), mz _ _ (by omega), mz _ _ (by omega), mz _ _ (by omega), sj 11 _ (by decide) (by decide) (by decide), sj 12 _ (by decide) (by decide) (by decide), sj 13 _ (by decide) (by decide) (by decide), sj 14 _ (by decide) (by decide) (by decide)]
    exact rt e e0 e1
theorem mB_works {a lg un pt : Int} {S : jx_M} (hB : mB S) (h1 : 1 ≤ lg ∧ lg ≤ 12) (h2 : 0 ≤ un ∧ un ≤ 5) (h3 : 1 ≤ pt ∧ pt ≤ 255) : mB (jx_u (jx_u (jx_u S 2 a lg) 3 a un) 4 a pt) := by
  obtain ⟨b1, b2, b3, b4, b5, b6⟩ := hB
  obtain ⟨S1, hS1⟩ : ∃ S1, S1 = jx_u (jx_u (jx_u S 2 a lg) 3 a un) 4 a pt := ⟨_, rfl⟩
  have sj : ∀ j k, j ≠ 2 → j ≠ 3 → j ≠ 4 → S1 j k = S j k := fun j k h1 h2 h3 => by rw [hS1, jx_u_a _ _ _ _ _ _ h3, jx_u_a _ _ _ _ _ _ h2, jx_u_a _ _ _ _ _ _ h1]
  have sa : ∀ j k, k ≠ a → S1 j k = S j k := fun j k h => by rw [hS1, jx_u_j _ _ _ _ _ _ h, jx_u_j _ _ _ _ _ _ h, jx_u_j _ _ _ _ _ _ h]
  have s2 : S1 2 a = lg := by rw [hS1, jx_u_a _ _ _ _ _ _ (by decide), jx_u_a _ _ _ _ _ _ (by decide), jx_u_eq]
  have s3 : S1 3 a = un := by rw [hS1, jx_u_a _ _ _ _ _ _ (by decide), jx_u_eq]
  have s4 : S1 4 a = pt := by rw [hS1, jx_u_eq]
  rw [← hS1]
  unfold mB mm_uok
  rw [sj 0 9 (by decide) (by decide) (by decide), sj 0 15 (by decide) (by decide) (by decide)]
  refine ⟨b1, b2, fun b b0 b1' => ?_, fun b i b0 b1' i0 i1 => ?_, fun e e0 e1 => ?_, fun k k0 k1 => ?_⟩
  · have w := b3 b b0 b1'
    rw [sj 1 b (by decide) (by decide) (by decide), sj 5 b (by decide) (by decide) (by decide)]
    by_cases c : b = a
    · rw [c, s2, s3, s4]
      rw [c] at w
      exact ⟨w.1, h1, h2, h3, w.2.2.2.2⟩
    · rw [sa 2 b c, sa 3 b c, sa 4 b c]
      exact w
  · rw [sj 1 b (by decide) (by decide) (by decide), sj 6 _ (by decide) (by decide) (by decide), sj 7 _ (by decide) (by decide) (by decide)]
    exact b4 b i b0 b1' i0 i1
  · rw [sj 11 _ (by decide) (by decide) (by decide), sj 12 _ (by decide) (by decide) (by decide), sj 13 _ (by decide) (by decide) (by decide), sj 14 _ (by decide) (by decide) (by decide)]
    exact b5 e e0 e1
  · rw [sj 10 _ (by decide) (by decide) (by decide)]
    exact b6 k k0 k1
/-- 'changed' behind a change of the body -/
theorem ch_fin {x : Int} {S S1 : jx_M} {g : jx_S} {M M1 : jx_M} {Po : jx_Po} {r : Int} (hR : rR x S g M) (h9 : S1 0 9 ≤ 16) (hb : rBd x S1 g M1) (hf : ∀ z k, qMs x z k ∨ qSl x z ∨ (z < x ∨ (x + 397 ≤ z ∧ z < x + 430)) → M1 z k = M z k) (e1 : S1 0 32 = S 0 32 ∧ S1 0 26 = S 0 26) (e2 : S1 23 = S 23 ∧ S1 31 = S 31 ∧ S1 19 = S 19 ∧ S1 21 = S 21 ∧ S1 22 = S 22)
    (hK : rK x g M Po 0 r (mu_changes S1 0)) : ∀ M', rCh x S1 M1 M' → Po (0, 0, r) g M' := fun M' hc =>
  hK g M' (rR_ch h9 hR.1 hb (rMs_S (rMs_c hR.2.2.2.2.2.1 (fun z k w => hf z k (.inl w))) e1.1 e1.2 e2.1 e2.2.1) (rSl_S (rSl_c hR.2.2.2.2.2.2 (fun z k w => hf z k (.inr (.inl w)))) e2.2.2.1 e2.2.2.2.1 e2.2.2.2.2) hc) (rFr_ch ⟨rG_rf, fun z i w => hf z i (.inr (.inr w))⟩ hc)
def js_X0_works : jx_Sp := fun as g M Po => match as with
  | [(60, _, x), (0, _, a), (0, _, lg), (0, _, un), (0, _, pt)] => ∃ S, (rR x S g M ∧ mW S ∧ (jx_r a ∧ jx_r lg ∧ jx_r un ∧ jx_r pt)) ∧ rK x g M Po 0 (f_works a lg un pt S).1 (f_works a lg un pt S).2
  | _ => False
def cs_X0_works : jx_Cs := [(1278, 2, 0, 0, js_X0_isAct), (1135, 3, 0, 0, js_X0_isIn), (1161, 2, 0, 0, js_X0_refuse), (1152, 1, 0, 0, js_X0_changed)]
theorem hc_X0_works {D : jx_D} {l : Launch} : jx_CsOK D l "LoopLane" 5 cs_X0_works := List.forall_mem_cons.mpr ⟨jc_X0_426 (jt_X0_isAct l) (fun as g M Po (h : js_X0_isAct as g M Po) => by unfold js_X0_isAct at h; split at h <;> first | exact h.elim | exact ⟨_, _, _, rfl, rfl⟩) (by decide), List.forall_mem_cons.mpr ⟨jc_X0_378 (jt_X0_isIn l) (fun as g M Po (h : js_X0_isIn as g M Po) => by unfold js_X0_isIn at h; split at h <;> first | exact h.elim | exact rfl) (by decide), List.forall_mem_cons.mpr ⟨jc_X0_387 (jt_X0_refuse l) (fun as g M Po (h : js_X0_refuse as g M Po) => by unfold js_X0_refuse at h; split at h <;> first | exact h.elim | exact ⟨_, _, _, rfl, rfl⟩) (by decide), List.forall_mem_cons.mpr ⟨jc_X0_384 (jt_X0_changed l) (fun as g M Po (h : js_X0_changed as g M Po) => by unfold js_X0_changed at h; split at h <;> first | exact h.elim | exact ⟨_, _, _, rfl, rfl⟩) (by decide), fun _ h => absurd h List.not_mem_nil⟩⟩⟩⟩
set_option maxHeartbeats 4000000 in
theorem jt_X0_works (l : Launch) : jx_Ct l yX0_works (ws_ yX0_works cX0_works 5 (some .int)) 5 0 0 js_X0_works := by
  refine jx_Ct_c (rc := 0) (by decide) rfl (fun D as g M Po hS => ?_)
  unfold js_X0_works at hS
  split at hS
  · rename_i n1 x n2 a n3 lg n4 un n5 pt
    obtain ⟨S, ⟨hR, hW, ra, rlg, run, rpt⟩, hK⟩ := hS
    have hB := hW.1
    have h9 := hB.1
    have x0 := hR.1.1
    have r5 := hR.2.1.1
    unfold f_works mm_isa at hK
    simp only [rK_ite, mno] at hK
    refine ⟨Nat.le_of_ble_eq_true rfl, ?_⟩
    have at20 : ¬ ((0 ≤ a ∧ a < S 0 9) ∧ (0 ≤ un ∧ un ≤ 5)) → jx_V D l (yX0_works.cls, cX0_works, 5, 0, [], 5, 0, 0, yX0_works.name) Po 20 [(60, n1, x), (0, n2, a), (0, n3, lg), (0, n4, un), (0, n5, pt)] [] (0, 0) g (M) := by
      intro c
      refine jx_runL (o := jo_X0) (cs := cs_X0_works) (hf := jx_nh) jo_X0_ok hc_X0_works (jx_HK_nil rfl) (fun _ => false) 20 ?_
      simp only [jw, ju, jx_tg, Int.cast_ofNat_Int, Int.reduceAdd, Int.reduceToNat, Nat.reduceAdd, Nat.reduceMul, Nat.reduceBEq, Nat.reduceLeDiff, Int.reduceLE, Int.reduceLT, Int.reduceEq, Int.reduceNeg, Int.reduceSub, Int.reduceMul, not_false_eq_true, true_and, and_true, and_self, Bool.or_false, Bool.false_or, Bool.or_true, Bool.true_or, List.length_nil, List.length_cons, Nat.zero_le, or_true, true_or, Nat.le_refl, ↓reduceIte, Nat.reduceEqDiff, forall_const, false_and, and_false, false_implies, implies_true, not_true_eq_false, or_false, false_or, ne_eq, jd_X0_works, jf_X0, js_X0_changed, js_X0_isAct, js_X0_isIn, js_X0_refuse, cs_X0_works, jx_ck_c]
      exact rK_no h9.2 (by decide) hR rFr_rf (hK.2 c)
    have at52 : ((0 ≤ a ∧ a < S 0 9) ∧ (0 ≤ un ∧ un ≤ 5)) → ¬ ((1 ≤ lg ∧ lg ≤ 12) ∧ (1 ≤ pt ∧ pt ≤ 255)) → jx_V D l (yX0_works.cls, cX0_works, 5, 0, [], 5, 0, 0, yX0_works.name) Po 52 [(60, n1, x), (0, n2, a), (0, n3, lg), (0, n4, un), (0, n5, pt)] [] (0, 0) g (M) := by
      intro c1 c
      refine jx_runL (o := jo_X0) (cs := cs_X0_works) (hf := jx_nh) jo_X0_ok hc_X0_works (jx_HK_nil rfl) (fun _ => false) 20 ?_
      simp only [jw, ju, jx_tg, Int.cast_ofNat_Int, Int.reduceAdd, Int.reduceToNat, Nat.reduceAdd, Nat.reduceMul, Nat.reduceBEq, Nat.reduceLeDiff, Int.reduceLE, Int.reduceLT, Int.reduceEq, Int.reduceNeg, Int.reduceSub, Int.reduceMul, not_false_eq_true, true_and, and_true, and_self, Bool.or_false, Bool.false_or, Bool.or_true, Bool.true_or, List.length_nil, List.length_cons, Nat.zero_le, or_true, true_or, Nat.le_refl, ↓reduceIte, Nat.reduceEqDiff, forall_const, false_and, and_false, false_implies, implies_true, not_true_eq_false, or_false, false_or, ne_eq, jd_X0_works, jf_X0, js_X0_changed, js_X0_isAct, js_X0_isIn, js_X0_refuse, cs_X0_works, jx_ck_c]
      exact rK_no h9.2 (by decide) hR rFr_rf ((hK.1 c1).2 c)
    have at59 : ((0 ≤ a ∧ a < S 0 9) ∧ (0 ≤ un ∧ un ≤ 5)) → ((1 ≤ lg ∧ lg ≤ 12) ∧ (1 ≤ pt ∧ pt ≤ 255)) → jx_V D l (yX0_works.cls, cX0_works, 5, 0, [], 5, 0, 0, yX0_works.name) Po 59 [(60, n1, x), (0, n2, a), (0, n3, lg), (0, n4, un), (0, n5, pt)] [] (0, 0) g (M) := by
      intro c1 c2
      have hA := hR.2.1.2.2.1 a c1.1.1 c1.1.2
      have ad := rA_ad hA c1.1.1 (by omega)
      obtain ⟨p, hp⟩ : ∃ p, p = M (x + 13) a := ⟨_, rfl⟩
      rw [← hp] at ad
      have u1 : jx_u M p 0 lg (x + 13) a = p := by rw [jx_u_a _ _ _ _ _ _ (by omega)]; exact hp.symm
      have u2 : jx_u (jx_u M p 0 lg) p 1 un (x + 13) a = p := by rw [jx_u_a _ _ _ _ _ _ (by omega)]; exact u1
      have k3 := rA_k3 hA x0 c1.1.1
      rw [← hp] at k3
      have rb := rBd_works (lg := lg) (un := un) (pt := pt) h9.2 c1.1 hR.2.1
      rw [← hp] at rb
      refine jx_runL (o := jo_X0) (cs := cs_X0_works) (hf := jx_nh) jo_X0_ok hc_X0_works (jx_HK_nil rfl) (fun _ => false) 60 ?_
      simp only [jw, ju, jx_tg, Int.cast_ofNat_Int, Int.reduceAdd, Int.reduceToNat, Nat.reduceAdd, Nat.reduceMul, Nat.reduceBEq, Nat.reduceLeDiff, Int.reduceLE, Int.reduceLT, Int.reduceEq, Int.reduceNeg, Int.reduceSub, Int.reduceMul, not_false_eq_true, true_and, and_true, and_self, Bool.or_false, Bool.false_or, Bool.or_true, Bool.true_or, List.length_nil, List.length_cons, Nat.zero_le, or_true, true_or, Nat.le_refl, ↓reduceIte, Nat.reduceEqDiff, forall_const, false_and, and_false, false_implies, implies_true, not_true_eq_false, or_false, false_or, ne_eq, jd_X0_works, jf_X0, ← hp, u1, u2, js_X0_changed, js_X0_isAct, js_X0_isIn, js_X0_refuse, cs_X0_works, jx_ck_c]
      refine ⟨by omega, k3, by omega, k3, by omega, k3, _, ⟨x0, rb, mB_works hB c2.1 c1.2 c2.2⟩, ch_fin hR ?_ rb (fun z k w => ?_) ⟨?_, ?_⟩ ⟨?_, ?_, ?_, ?_, ?_⟩ ((hK.1 c1).1 c2)⟩
      · rw [jx_u_a _ _ _ _ _ _ (by decide), jx_u_a _ _ _ _ _ _ (by decide), jx_u_a _ _ _ _ _ _ (by decide)]; exact h9.2
      · have hz : z ≠ p := by unfold qMs qSl at w; omega
        rw [jx_u_a _ _ _ _ _ _ hz, jx_u_a _ _ _ _ _ _ hz, jx_u_a _ _ _ _ _ _ hz]
      · rw [jx_u_a _ _ _ _ _ _ (by decide), jx_u_a _ _ _ _ _ _ (by decide), jx_u_a _ _ _ _ _ _ (by decide)]
      · rw [jx_u_a _ _ _ _ _ _ (by decide), jx_u_a _ _ _ _ _ _ (by decide), jx_u_a _ _ _ _ _ _ (by decide)]
      · rw [jx_u_row (by decide), jx_u_row (by decide), jx_u_row (by decide)]
      · rw [jx_u_row (by decide), jx_u_row (by decide), jx_u_row (by decide)]
      · rw [jx_u_row (by decide), jx_u_row (by decide), jx_u_row (by decide)]
      · rw [jx_u_row (by decide), jx_u_row (by decide), jx_u_row (by decide)]
      · rw [jx_u_row (by decide), jx_u_row (by decide), jx_u_row (by decide)]
    refine jx_runL (o := jo_X0) (cs := cs_X0_works) (hf := jx_nh) jo_X0_ok hc_X0_works (jx_HK_nil rfl) (fun p => p == 20 || p == 52 || p == 59) 60 ?_
    simp only [jw, ju, jx_tg, Int.cast_ofNat_Int, Int.reduceAdd, Int.reduceToNat, Nat.reduceAdd, Nat.reduceMul, Nat.reduceBEq, Nat.reduceLeDiff, Int.reduceLE, Int.reduceLT, Int.reduceEq, Int.reduceNeg, Int.reduceSub, Int.reduceMul, not_false_eq_true, true_and, and_true, and_self, Bool.or_false, Bool.false_or, Bool.or_true, Bool.true_or, List.length_nil, List.length_cons, Nat.zero_le, or_true, true_or, Nat.le_refl, ↓reduceIte, Nat.reduceEqDiff, forall_const, false_and, and_false, false_implies, implies_true, not_true_eq_false, or_false, false_or, ne_eq, jd_X0_works, jf_X0, r5, js_X0_changed, js_X0_isAct, js_X0_isIn, js_X0_refuse, cs_X0_works, jx_ck_c]
    refine ⟨⟨ra, by omega⟩, fun c => ⟨run, fun c2 => ⟨rlg, fun c3 => ⟨rpt, fun c4 => at59 ⟨c, c2⟩ ⟨c3, c4⟩, fun c4 => at52 ⟨c, c2⟩ (fun z => c4 z.2)⟩, fun c3 => at52 ⟨c, c2⟩ (fun z => c3 z.1)⟩, fun c2 => at20 (fun z => c2 z.2)⟩, fun c => at20 (fun z => c z.1)⟩
  · exact hS.elim
/-! first -/
theorem me_all_8 {S : jx_M} {a v : Int} : me_all (jx_u S 8 a v) = me_all S ∧ me_n (jx_u S 8 a v) = me_n S := by
  have r : ∀ j, j ≠ 8 → jx_u S 8 a v j = S j := fun j h => jx_u_row h
  have b : me_b (jx_u S 8 a v) = me_b S := by
    funext b
    unfold me_b me_ops me_op me_tws me_two me_rw me_bh
    simp only [r 1 (by decide), r 5 (by decide), r 0 (by decide), r 2 (by decide), r 6 (by decide), r 7 (by decide)]
  refine ⟨?_, ?_⟩
  · unfold me_all me_body me_tld
    simp only [b, r 0 (by decide), r 11 (by decide), r 12 (by decide), r 13 (by decide), r 14 (by decide)]
  · have c1 : me_c1 (jx_u S 8 a v) = me_c1 S := by
      funext k
      unfold me_c1
      rw [show me_op (jx_u S 8 a v) k = me_op S k by unfold me_op; rw [r 6 (by decide), r 0 (by decide)]]
    have co : ∀ b n, me_co (jx_u S 8 a v) b n = me_co S b n := by
      intro b n
      induction n with
      | zero => rfl
      | succ n ih => unfold me_co; rw [ih, c1]
    have cn : me_cn (jx_u S 8 a v) = me_cn S := by
      funext p q
      unfold me_cn
      rw [show me_rw (jx_u S 8 a v) p q = me_rw S p q by unfold me_rw; rw [r 1 (by decide), r 5 (by decide)], show me_bh (jx_u S 8 a v) p q = me_bh S p q by unfold me_bh; rw [r 1 (by decide)]]
    have cb : me_cb (jx_u S 8 a v) = me_cb S := by
      funext b
      unfold me_cb me_ct
      rw [co, r 1 (by decide), cn, r 0 (by decide)]
    unfold me_n
    rw [cb, r 0 (by decide)]
theorem rR_first {x a v : Int} {S : jx_M} {g : jx_S} {M : jx_M} (h9 : S 0 9 ≤ 16) (ha : 0 ≤ a ∧ a < S 0 9) (hR : rR x S g M) : rR x (jx_u S 8 a v) g (jx_u M (M (x + 13) a) 3 v) := by
  obtain ⟨hs, hb, he, hl, hr, hm, hsl⟩ := hR
  obtain ⟨S1, hS1⟩ : ∃ S1, S1 = jx_u S 8 a v := ⟨_, rfl⟩
  obtain ⟨M1, hM1⟩ : ∃ M1, M1 = jx_u M (M (x + 13) a) 3 v := ⟨_, rfl⟩
  have Aa := hb.2.2.1 a ha.1 ha.2
  have ad := rA_ad Aa ha.1 (by omega)
  have sr : ∀ j, j ≠ 8 → S1 j = S j := fun j h => by rw [hS1]; exact jx_u_row h
  have mz : ∀ z k, z ≠ M (x + 13) a → M1 z k = M z k := fun z k h => by rw [hM1, jx_u_a _ _ _ _ _ _ h]
  have mk : ∀ k, k ≠ 3 → M1 (M (x + 13) a) k = M (M (x + 13) a) k := fun k h => by rw [hM1, jx_u_j _ _ _ _ _ _ h]
  have me := me_all_8 (S := S) (a := a) (v := v)
  rw [← hS1] at me
  rw [← hS1, ← hM1]
  have e13 : ∀ b, M1 (x + 13) b = M (x + 13) b := fun b => mz _ _ (by omega)
  refine ⟨hs, ⟨?_, ?_, fun b b0 b1 => ?_, fun k k0 k1 => ?_, fun e e0 e1 => ?_⟩, ?_, ?_, ?_, ?_, ?_⟩
  · rw [mz _ _ (by omega), sr 0 (by decide)]; exact hb.1
  · rw [mz _ _ (by omega), sr 0 (by decide)]; exact hb.2.1
  · rw [sr 0 (by decide)] at b1
    have Ab := hb.2.2.1 b b0 b1
    by_cases c : b = a
    · rw [c]
      unfold rA at Aa ⊢
      rw [e13, sr 1 (by decide), sr 2 (by decide), sr 3 (by decide), sr 4 (by decide), sr 9 (by decide), sr 5 (by decide), sr 6 (by decide), sr 7 (by decide), mk 0 (by decide), mk 1 (by decide), mk 2 (by decide), mk 4 (by decide), mk 7 (by decide)]
      refine ⟨Aa.1, Aa.2.1, Aa.2.2.1, Aa.2.2.2.1, Aa.2.2.2.2.1, Aa.2.2.2.2.2.1, by rw [hM1, hS1, jx_u_eq, jx_u_eq], Aa.2.2.2.2.2.2.2.1, fun i i0 i1 => ?_, Aa.2.2.2.2.2.2.2.2.2⟩
      rw [mz _ i (by omega), mz _ i (by omega)]
      exact Aa.2.2.2.2.2.2.2.2.1 i i0 i1
    · have ap := rA_apart Aa Ab (fun z => c z.symm)
      unfold rA at Ab ⊢
      rw [e13, sr 1 (by decide), sr 2 (by decide), sr 3 (by decide), sr 4 (by decide), sr 9 (by decide), sr 5 (by decide), sr 6 (by decide), sr 7 (by decide), show S1 8 b = S 8 b by rw [hS1, jx_u_j _ _ _ _ _ _ c], mz _ 0 (by omega), mz _ 1 (by omega), mz _ 2 (by omega), mz _ 3 (by omega), mz _ 4 (by omega), mz _ 7 (by omega)]
      refine ⟨Ab.1, Ab.2.1, Ab.2.2.1, Ab.2.2.2.1, Ab.2.2.2.2.1, Ab.2.2.2.2.2.1, Ab.2.2.2.2.2.2.1, Ab.2.2.2.2.2.2.2.1, fun i i0 i1 => ?_, Ab.2.2.2.2.2.2.2.2.2⟩
      rw [mz _ i (by omega), mz _ i (by omega)]
      exact Ab.2.2.2.2.2.2.2.2.1 i i0 i1
  · rw [mz _ _ (by omega), sr 10 (by decide)]; exact hb.2.2.2.1 k k0 k1
  · rw [sr 0 (by decide)] at e1
    rw [mz _ _ (by omega), mz _ _ (by omega), mz _ _ (by omega), mz _ _ (by omega), sr 11 (by decide), sr 12 (by decide), sr 13 (by decide), sr 14 (by decide)]
    exact hb.2.2.2.2 e e0 e1
  · refine rEd_c (M := M) ?_ (fun z k w => mz z k (by unfold qEd at w; omega))
    unfold rEd at he ⊢
    rw [me.1, me.2, sr 0 (by decide)]
    exact he
  · exact rLd_S (rLd_c hl (fun z k w => mz z k (by unfold qLd at w; omega))) (by rw [sr 0 (by decide)]) (by rw [sr 0 (by decide)]) (sr _ (by decide)) (sr _ (by decide)) (sr _ (by decide))
  · exact rRs_S (rRs_c hr (fun z k w => mz z k (by unfold qRs at w; omega))) (fun k _ _ => by rw [sr 0 (by decide)]) (by rw [sr 0 (by decide)]) (sr _ (by decide))
  · exact rMs_S (rMs_c hm (fun z k w => mz z k (by unfold qMs at w; omega))) (by rw [sr 0 (by decide)]) (by rw [sr 0 (by decide)]) (sr _ (by decide)) (sr _ (by decide))
  · exact rSl_S (rSl_c hsl (fun z k w => mz z k (by unfold qSl at w; omega))) (sr _ (by decide)) (sr _ (by decide)) (sr _ (by decide))
def js_X0_first : jx_Sp := fun as g M Po => match as with
  | [(60, _, x), (0, _, a), (1, _, v)] => ∃ S, (rR x S g M ∧ mW S ∧ jx_r a) ∧ rK x g M Po 0 (f_first a v S).1 (f_first a v S).2
  | _ => False
def cs_X0_first : jx_Cs := [(1278, 2, 0, 0, js_X0_isAct), (1161, 2, 0, 0, js_X0_refuse)]
theorem hc_X0_first {D : jx_D} {l : Launch} : jx_CsOK D l "LoopLane" 5 cs_X0_first := List.forall_mem_cons.mpr ⟨jc_X0_426 (jt_X0_isAct l) (fun as g M Po (h : js_X0_isAct as g M Po) => by unfold js_X0_isAct at h; split at h <;> first | exact h.elim | exact ⟨_, _, _, rfl, rfl⟩) (by decide), List.forall_mem_cons.mpr ⟨jc_X0_387 (jt_X0_refuse l) (fun as g M Po (h : js_X0_refuse as g M Po) => by unfold js_X0_refuse at h; split at h <;> first | exact h.elim | exact ⟨_, _, _, rfl, rfl⟩) (by decide), fun _ h => absurd h List.not_mem_nil⟩⟩
set_option maxHeartbeats 4000000 in
theorem jt_X0_first (l : Launch) : jx_Ct l yX0_first (ws_ yX0_first cX0_first 4 (some .int)) 5 0 0 js_X0_first := by
  refine jx_Ct_c (rc := 0) (by decide) rfl (fun D as g M Po hS => ?_)
  unfold js_X0_first at hS
  split at hS
  · rename_i n1 x n2 a n3 v
    obtain ⟨S, ⟨hR, hW, ra⟩, hK⟩ := hS
    have hB := hW.1
    have h9 := hB.1
    have x0 := hR.1.1
    have r5 := hR.2.1.1
    unfold f_first mm_isa at hK
    simp only [rK_ite, mno] at hK
    refine ⟨Nat.le_of_ble_eq_true rfl, ?_⟩
    refine jx_runL (o := jo_X0) (cs := cs_X0_first) (hf := jx_nh) jo_X0_ok hc_X0_first (jx_HK_nil rfl) (fun _ => false) 30 ?_
    simp only [jw, ju, jx_tg, Int.cast_ofNat_Int, Int.reduceAdd, Int.reduceToNat, Nat.reduceAdd, Nat.reduceMul, Nat.reduceBEq, Nat.reduceLeDiff, Int.reduceLE, Int.reduceLT, Int.reduceEq, Int.reduceNeg, Int.reduceSub, Int.reduceMul, not_false_eq_true, true_and, and_true, and_self, Bool.or_false, Bool.false_or, Bool.or_true, Bool.true_or, List.length_nil, List.length_cons, Nat.zero_le, or_true, true_or, Nat.le_refl, ↓reduceIte, Nat.reduceEqDiff, forall_const, false_and, and_false, false_implies, implies_true, not_true_eq_false, or_false, false_or, ne_eq, jd_X0_first, jf_X0, r5, js_X0_isAct, js_X0_refuse, cs_X0_first, jx_ck_c]
    refine ⟨⟨ra, by omega⟩, fun c => ?_, fun c => rK_no h9.2 (by decide) hR rFr_rf (hK.2 c)⟩
    have hA := hR.2.1.2.2.1 a c.1 c.2
    have ad := rA_ad hA c.1 (by omega)
    exact ⟨by omega, rA_k3 hA x0 c.1, hK.1 c _ _ (rR_first h9.2 c hR) (rFr_u rFr_rf (by omega))⟩
  · exact hS.elim
/-! unit, edge -/
def js_X0_unit : jx_Sp := fun as g M Po => match as with
  | [(60, _, x), (0, _, k), (0, _, n)] => ∃ S, (rR x S g M ∧ mW S ∧ (jx_r k ∧ jx_r n)) ∧ rK x g M Po 0 (f_unit k n S).1 (f_unit k n S).2
  | _ => False
def cs_X0_unit : jx_Cs := [(1135, 3, 0, 0, js_X0_isIn), (1161, 2, 0, 0, js_X0_refuse), (1152, 1, 0, 0, js_X0_changed)]
theorem hc_X0_unit {D : jx_D} {l : Launch} : jx_CsOK D l "LoopLane" 5 cs_X0_unit := List.forall_mem_cons.mpr ⟨jc_X0_378 (jt_X0_isIn l) (fun as g M Po (h : js_X0_isIn as g M Po) => by unfold js_X0_isIn at h; split at h <;> first | exact h.elim | exact rfl) (by decide), List.forall_mem_cons.mpr ⟨jc_X0_387 (jt_X0_refuse l) (fun as g M Po (h : js_X0_refuse as g M Po) => by unfold js_X0_refuse at h; split at h <;> first | exact h.elim | exact ⟨_, _, _, rfl, rfl⟩) (by decide), List.forall_mem_cons.mpr ⟨jc_X0_384 (jt_X0_changed l) (fun as g M Po (h : js_X0_changed as g M Po) => by unfold js_X0_changed at h; split at h <;> first | exact h.elim | exact ⟨_, _, _, rfl, rfl⟩) (by decide), fun _ h => absurd h List.not_mem_nil⟩⟩⟩
set_option maxHeartbeats 4000000 in
theorem jt_X0_unit (l : Launch) : jx_Ct l yX0_unit (ws_ yX0_unit cX0_unit 4 (some .int)) 5 0 0 js_X0_unit := by
  refine jx_Ct_c (rc := 0) (by decide) rfl (fun D as g M Po hS => ?_)
  unfold js_X0_unit at hS
  split at hS
  · rename_i n1 x n2 k n3 n
    obtain ⟨S, ⟨hR, hW, rk, rn⟩, hK⟩ := hS
    have hB := hW.1
    have h9 := hB.1
    have x0 := hR.1.1
    unfold f_unit at hK
    simp only [rK_ite, mno] at hK
    refine ⟨Nat.le_of_ble_eq_true rfl, ?_⟩
    have at44 : (0 ≤ k ∧ k ≤ 5) → (0 ≤ n ∧ n ≤ 4) → jx_V D l (yX0_unit.cls, cX0_unit, 4, 0, [], 5, 0, 0, yX0_unit.name) Po 44 [(60, n1, x), (0, n2, k), (0, n3, n), (5, 0, 0)] [] (0, 0) g (M) := by
      intro c1 c2
      have eu := hR.2.1.2.2.2.1 k c1.1 (by omega)
      have hK3 := ((hK.1 c1).2 (by omega)).2 (by omega)
      have rb : rBd x (jx_u S 10 k n) g (jx_u M (x + 21) k n) := by
        obtain ⟨r5, r15, ra, ru, rt⟩ := hR.2.1
        refine ⟨?_, ?_, fun a a0 a1 => ?_, fun j j0 j1 => ?_, fun e e0 e1 => ?_⟩
        · rw [jx_u_a _ _ _ _ _ _ (by omega), jx_u_a _ _ _ _ _ _ (by decide)]; exact r5
        · rw [jx_u_a _ _ _ _ _ _ (by omega), jx_u_a _ _ _ _ _ _ (by decide)]; exact r15
        · rw [jx_u_a _ _ _ _ _ _ (by decide)] at a1
          have A := ra a a0 a1
          have := rA_c (M' := jx_u M (x + 21) k n) A a0 (by omega) (jx_u_a _ _ _ _ _ _ (by omega)) (fun z i q1 q2 => jx_u_a _ _ _ _ _ _ (by omega))
          unfold rA at this ⊢
          simp only [jx_u_row (show (1 : Int) ≠ 10 by decide), jx_u_row (show (2 : Int) ≠ 10 by decide), jx_u_row (show (3 : Int) ≠ 10 by decide), jx_u_row (show (4 : Int) ≠ 10 by decide), jx_u_row (show (5 : Int) ≠ 10 by decide), jx_u_row (show (6 : Int) ≠ 10 by decide), jx_u_row (show (7 : Int) ≠ 10 by decide), jx_u_row (show (8 : Int) ≠ 10 by decide), jx_u_row (show (9 : Int) ≠ 10 by decide)]
          exact this
        · by_cases c : j = k
          · rw [c, jx_u_eq, jx_u_eq]
          · rw [jx_u_j _ _ _ _ _ _ c, jx_u_j _ _ _ _ _ _ c]; exact ru j j0 j1
        · rw [jx_u_a _ _ _ _ _ _ (by decide)] at e1
          simp (disch := omega) only [jx_u_a]
          exact rt e e0 e1
      have mb : mB (jx_u S 10 k n) := by
        unfold mB mm_uok at hB ⊢
        simp only [jx_u_row (show (0 : Int) ≠ 10 by decide), jx_u_row (show (1 : Int) ≠ 10 by decide), jx_u_row (show (2 : Int) ≠ 10 by decide), jx_u_row (show (3 : Int) ≠ 10 by decide), jx_u_row (show (4 : Int) ≠ 10 by decide), jx_u_row (show (5 : Int) ≠ 10 by decide), jx_u_row (show (6 : Int) ≠ 10 by decide), jx_u_row (show (7 : Int) ≠ 10 by decide), jx_u_row (show (11 : Int) ≠ 10 by decide), jx_u_row (show (12 : Int) ≠ 10 by decide), jx_u_row (show (13 : Int) ≠ 10 by decide), jx_u_row (show (14 : Int) ≠ 10 by decide)]
        refine ⟨hB.1, hB.2.1, hB.2.2.1, hB.2.2.2.1, hB.2.2.2.2.1, fun j j0 j1 => ?_⟩
        by_cases c : j = k
        · rw [c, jx_u_eq]; exact c2
        · rw [jx_u_j _ _ _ _ _ _ c]; exact hB.2.2.2.2.2 j j0 j1
      refine jx_runL (o := jo_X0) (cs := cs_X0_unit) (hf := jx_nh) jo_X0_ok hc_X0_unit (jx_HK_nil rfl) (fun _ => false) 30 ?_
      simp only [jw, ju, jx_tg, Int.cast_ofNat_Int, Int.reduceAdd, Int.reduceToNat, Nat.reduceAdd, Nat.reduceMul, Nat.reduceBEq, Nat.reduceLeDiff, Int.reduceLE, Int.reduceLT, Int.reduceEq, Int.reduceNeg, Int.reduceSub, Int.reduceMul, not_false_eq_true, true_and, and_true, and_self, Bool.or_false, Bool.false_or, Bool.or_true, Bool.true_or, List.length_nil, List.length_cons, Nat.zero_le, or_true, true_or, Nat.le_refl, ↓reduceIte, Nat.reduceEqDiff, forall_const, false_and, and_false, false_implies, implies_true, not_true_eq_false, or_false, false_or, ne_eq, jd_X0_unit, jf_X0, eu, js_X0_changed, js_X0_isIn, js_X0_refuse, cs_X0_unit, jx_ck_c]
      refine ⟨by omega, by omega, _, ⟨x0, rb, mb⟩, ch_fin hR ?_ rb (fun z i w => ?_) ⟨?_, ?_⟩ ⟨?_, ?_, ?_, ?_, ?_⟩ hK3⟩
      · rw [jx_u_a _ _ _ _ _ _ (by decide)]; exact h9.2
      · rw [jx_u_a _ _ _ _ _ _ (by unfold qMs qSl at w; omega)]
      · rw [jx_u_a _ _ _ _ _ _ (by decide)]
      · rw [jx_u_a _ _ _ _ _ _ (by decide)]
      · rw [jx_u_row (by decide)]
      · rw [jx_u_row (by decide)]
      · rw [jx_u_row (by decide)]
      · rw [jx_u_row (by decide)]
      · rw [jx_u_row (by decide)]
    refine jx_runL (o := jo_X0) (cs := cs_X0_unit) (hf := jx_nh) jo_X0_ok hc_X0_unit (jx_HK_nil rfl) (fun p => p == 44) 40 ?_
    simp only [jw, ju, jx_tg, Int.cast_ofNat_Int, Int.reduceAdd, Int.reduceToNat, Nat.reduceAdd, Nat.reduceMul, Nat.reduceBEq, Nat.reduceLeDiff, Int.reduceLE, Int.reduceLT, Int.reduceEq, Int.reduceNeg, Int.reduceSub, Int.reduceMul, not_false_eq_true, true_and, and_true, and_self, Bool.or_false, Bool.false_or, Bool.or_true, Bool.true_or, List.length_nil, List.length_cons, Nat.zero_le, or_true, true_or, Nat.le_refl, ↓reduceIte, Nat.reduceEqDiff, forall_const, false_and, and_false, false_implies, implies_true, not_true_eq_false, or_false, false_or, ne_eq, jd_X0_unit, jf_X0, js_X0_changed, js_X0_isIn, js_X0_refuse, cs_X0_unit, jx_ck_c]
    refine ⟨rk, fun c => ⟨rn, fun c2 => ?_, fun c2 => ?_⟩, fun c => rK_no h9.2 (by decide) hR rFr_rf (hK.2 c)⟩
    · exact ⟨rn, fun c3 => by omega, fun c3 => rK_no h9.2 (by decide) hR rFr_rf ((hK.1 c).1 (by omega))⟩
    · exact ⟨rn, fun c3 => at44 c (by omega), fun c3 => ⟨rn, fun c4 => rK_no h9.2 (by decide) hR rFr_rf (((hK.1 c).2 (by omega)).1 (by omega)), fun c4 => by omega⟩⟩
  · exact hS.elim
/-- an edge is told: the state ahead of what is forgotten -/
def mu_edge1 (S : jx_M) (a b t d : Int) : jx_M := jx_u (jx_u (jx_u (jx_u (jx_u S 11 (S 0 15) a) 12 (S 0 15) b) 13 (S 0 15) t) 14 (S 0 15) d) 0 15 (S 0 15 + 1)
theorem mu_edge_1 {S : jx_M} {a b t d : Int} : mu_edge S 0 a b t d = mu_changes (mu_edge1 S a b t d) 0 := rfl
def xu_edge (M : jx_M) (x a b t d : Int) : jx_M := jx_u (jx_u (jx_u (jx_u (jx_u M (x + 22) (M x 18) a) (x + 23) (M x 18) b) (x + 24) (M x 18) t) (x + 25) (M x 18) d) x 18 (M x 18 + 1)
theorem mu_edge1_c {S : jx_M} {a b t d : Int} : (∀ j k, (j < 11 ∨ 14 < j) → ¬ (j = 0 ∧ k = 15) → mu_edge1 S a b t d j k = S j k) ∧ (∀ j k, 11 ≤ j → j ≤ 14 → k ≠ S 0 15 → mu_edge1 S a b t d j k = S j k) ∧ mu_edge1 S a b t d 0 15 = S 0 15 + 1 ∧ mu_edge1 S a b t d 11 (S 0 15) = a ∧ mu_edge1 S a b t d 12 (S 0 15) = b ∧ mu_edge1 S a b t d 13 (S 0 15) = t ∧ mu_edge1 S a b t d 14 (S 0 15) = d := by
  unfold mu_edge1
  refine ⟨fun j k h1 h2 => ?_, fun j k h1 h2 h3 => ?_, jx_u_eq _ _ _ _, ?_, ?_, ?_, ?_⟩
  · rw [show ∀ X v, jx_u X 0 15 v j k = X j k from fun X v => if_neg h2]
    simp (disch := omega) only [jx_u_a]
  · rw [jx_u_a _ _ _ _ _ _ (by omega)]
    simp (disch := omega) only [jx_u_j]
  · simp (disch := omega) only [jx_u_a, jx_u_eq]
  · simp (disch := omega) only [jx_u_a, jx_u_eq]
  · simp (disch := omega) only [jx_u_a, jx_u_eq]
  · simp (disch := omega) only [jx_u_a, jx_u_eq]
theorem xu_edge_c {M : jx_M} {x a b t d : Int} : (∀ z k, (z < x + 22 ∨ x + 25 < z) → ¬ (z = x ∧ k = 18) → xu_edge M x a b t d z k = M z k) ∧ (∀ z k, x + 22 ≤ z → z ≤ x + 25 → k ≠ M x 18 → xu_edge M x a b t d z k = M z k) ∧ xu_edge M x a b t d x 18 = M x 18 + 1 ∧ xu_edge M x a b t d (x + 22) (M x 18) = a ∧ xu_edge M x a b t d (x + 23) (M x 18) = b ∧ xu_edge M x a b t d (x + 24) (M x 18) = t ∧ xu_edge M x a b t d (x + 25) (M x 18) = d := by
  unfold xu_edge
  refine ⟨fun j k h1 h2 => ?_, fun j k h1 h2 h3 => ?_, jx_u_eq _ _ _ _, ?_, ?_, ?_, ?_⟩
  · rw [show ∀ X v, jx_u X x 18 v j k = X j k from fun X v => if_neg h2]
    simp (disch := omega) only [jx_u_a]
  · rw [jx_u_a _ _ _ _ _ _ (by omega)]
    simp (disch := omega) only [jx_u_j]
  · simp (disch := omega) only [jx_u_a, jx_u_eq]
  · simp (disch := omega) only [jx_u_a, jx_u_eq]
  · simp (disch := omega) only [jx_u_a, jx_u_eq]
  · simp (disch := omega) only [jx_u_a, jx_u_eq]
def js_X0_edge : jx_Sp := fun as g M Po => match as with
  | [(60, _, x), (0, _, a), (0, _, b), (0, _, t), (0, _, d)] => ∃ S, (rR x S g M ∧ mW S ∧ (jx_r a ∧ jx_r b ∧ jx_r t ∧ jx_r d)) ∧ rK x g M Po 0 (f_edge a b t d S).1 (f_edge a b t d S).2
  | _ => False
def cs_X0_edge : jx_Cs := [(1278, 2, 0, 0, js_X0_isAct), (1135, 3, 0, 0, js_X0_isIn), (1161, 2, 0, 0, js_X0_refuse), (1152, 1, 0, 0, js_X0_changed)]
theorem hc_X0_edge {D : jx_D} {l : Launch} : jx_CsOK D l "LoopLane" 5 cs_X0_edge := List.forall_mem_cons.mpr ⟨jc_X0_426 (jt_X0_isAct l) (fun as g M Po (h : js_X0_isAct as g M Po) => by unfold js_X0_isAct at h; split at h <;> first | exact h.elim | exact ⟨_, _, _, rfl, rfl⟩) (by decide), List.forall_mem_cons.mpr ⟨jc_X0_378 (jt_X0_isIn l) (fun as g M Po (h : js_X0_isIn as g M Po) => by unfold js_X0_isIn at h; split at h <;> first | exact h.elim | exact rfl) (by decide), List.forall_mem_cons.mpr ⟨jc_X0_387 (jt_X0_refuse l) (fun as g M Po (h : js_X0_refuse as g M Po) => by unfold js_X0_refuse at h; split at h <;> first | exact h.elim | exact ⟨_, _, _, rfl, rfl⟩) (by decide), List.forall_mem_cons.mpr ⟨jc_X0_384 (jt_X0_changed l) (fun as g M Po (h : js_X0_changed as g M Po) => by unfold js_X0_changed at h; split at h <;> first | exact h.elim | exact ⟨_, _, _, rfl, rfl⟩) (by decide), fun _ h => absurd h List.not_mem_nil⟩⟩⟩⟩
set_option maxHeartbeats 4000000 in
theorem jt_X0_edge (l : Launch) : jx_Ct l yX0_edge (ws_ yX0_edge cX0_edge 5 (some .int)) 5 0 0 js_X0_edge := by
  refine jx_Ct_c (rc := 0) (by decide) rfl (fun D as g M Po hS => ?_)
  unfold js_X0_edge at hS
  split at hS
  · rename_i n1 x n2 a n3 b n4 t n5 d
    obtain ⟨S, ⟨hR, hW, ra, rb, rt, rd⟩, hK⟩ := hS
    have hB := hW.1
    have h9 := hB.1
    have h15 := hB.2.1
    have x0 := hR.1.1
    have r5 := hR.2.1.1
    have r18 := hR.2.1.2.1
    unfold f_edge mm_isa at hK
    simp only [rK_ite, mno] at hK
    refine ⟨Nat.le_of_ble_eq_true rfl, ?_⟩
    have at16 : ¬ ((0 ≤ a ∧ a < S 0 9) ∧ (0 ≤ b ∧ b < S 0 9)) → jx_V D l (yX0_edge.cls, cX0_edge, 5, 0, [], 5, 0, 0, yX0_edge.name) Po 16 [(60, n1, x), (0, n2, a), (0, n3, b), (0, n4, t), (0, n5, d)] [] (0, 0) g (M) := by
      intro c
      refine jx_runL (o := jo_X0) (cs := cs_X0_edge) (hf := jx_nh) jo_X0_ok hc_X0_edge (jx_HK_nil rfl) (fun _ => false) 20 ?_
      simp only [jw, ju, jx_tg, Int.cast_ofNat_Int, Int.reduceAdd, Int.reduceToNat, Nat.reduceAdd, Nat.reduceMul, Nat.reduceBEq, Nat.reduceLeDiff, Int.reduceLE, Int.reduceLT, Int.reduceEq, Int.reduceNeg, Int.reduceSub, Int.reduceMul, not_false_eq_true, true_and, and_true, and_self, Bool.or_false, Bool.false_or, Bool.or_true, Bool.true_or, List.length_nil, List.length_cons, Nat.zero_le, or_true, true_or, Nat.le_refl, ↓reduceIte, Nat.reduceEqDiff, forall_const, false_and, and_false, false_implies, implies_true, not_true_eq_false, or_false, false_or, ne_eq, jd_X0_edge, jf_X0, js_X0_changed, js_X0_isAct, js_X0_isIn, js_X0_refuse, cs_X0_edge, jx_ck_c]
      exact rK_no h9.2 (by decide) hR rFr_rf (hK.2 c)
    have at50 : ((0 ≤ a ∧ a < S 0 9) ∧ (0 ≤ b ∧ b < S 0 9)) → ¬ ((-50 ≤ t ∧ t ≤ 50) ∧ (0 ≤ d ∧ d ≤ 4)) → jx_V D l (yX0_edge.cls, cX0_edge, 5, 0, [], 5, 0, 0, yX0_edge.name) Po 50 [(60, n1, x), (0, n2, a), (0, n3, b), (0, n4, t), (0, n5, d)] [] (0, 0) g (M) := by
      intro c1 c
      refine jx_runL (o := jo_X0) (cs := cs_X0_edge) (hf := jx_nh) jo_X0_ok hc_X0_edge (jx_HK_nil rfl) (fun _ => false) 20 ?_
      simp only [jw, ju, jx_tg, Int.cast_ofNat_Int, Int.reduceAdd, Int.reduceToNat, Nat.reduceAdd, Nat.reduceMul, Nat.reduceBEq, Nat.reduceLeDiff, Int.reduceLE, Int.reduceLT, Int.reduceEq, Int.reduceNeg, Int.reduceSub, Int.reduceMul, not_false_eq_true, true_and, and_true, and_self, Bool.or_false, Bool.false_or, Bool.or_true, Bool.true_or, List.length_nil, List.length_cons, Nat.zero_le, or_true, true_or, Nat.le_refl, ↓reduceIte, Nat.reduceEqDiff, forall_const, false_and, and_false, false_implies, implies_true, not_true_eq_false, or_false, false_or, ne_eq, jd_X0_edge, jf_X0, js_X0_changed, js_X0_isAct, js_X0_isIn, js_X0_refuse, cs_X0_edge, jx_ck_c]
      exact rK_no h9.2 (by decide) hR rFr_rf ((hK.1 c1).2 c)
    have at57 : ((0 ≤ a ∧ a < S 0 9) ∧ (0 ≤ b ∧ b < S 0 9)) → ((-50 ≤ t ∧ t ≤ 50) ∧ (0 ≤ d ∧ d ≤ 4)) → jx_V D l (yX0_edge.cls, cX0_edge, 5, 0, [], 5, 0, 0, yX0_edge.name) Po 57 [(60, n1, x), (0, n2, a), (0, n3, b), (0, n4, t), (0, n5, d)] [] (0, 0) g (M) := by
      intro c1 c2
      have hK2 := (hK.1 c1).1 c2
      by_cases c3 : S 0 15 = 40
      · refine jx_runL (o := jo_X0) (cs := cs_X0_edge) (hf := jx_nh) jo_X0_ok hc_X0_edge (jx_HK_nil rfl) (fun p => p == 73) 20 ?_
        simp only [jw, ju, jx_tg, Int.cast_ofNat_Int, Int.reduceAdd, Int.reduceToNat, Nat.reduceAdd, Nat.reduceMul, Nat.reduceBEq, Nat.reduceLeDiff, Int.reduceLE, Int.reduceLT, Int.reduceEq, Int.reduceNeg, Int.reduceSub, Int.reduceMul, not_false_eq_true, true_and, and_true, and_self, Bool.or_false, Bool.false_or, Bool.or_true, Bool.true_or, List.length_nil, List.length_cons, Nat.zero_le, or_true, true_or, Nat.le_refl, ↓reduceIte, Nat.reduceEqDiff, forall_const, false_and, and_false, false_implies, implies_true, not_true_eq_false, or_false, false_or, ne_eq, jd_X0_edge, jf_X0, r18, js_X0_changed, js_X0_isAct, js_X0_isIn, js_X0_refuse, cs_X0_edge, jx_ck_c]
        exact ⟨by omega, fun c4 => by omega, fun c4 => rK_no h9.2 (by decide) hR rFr_rf (hK2.1 c3)⟩
      · have hK3 := hK2.2 c3
        rw [mu_edge_1] at hK3
        have sc := mu_edge1_c (S := S) (a := a) (b := b) (t := t) (d := d)
        have mc := xu_edge_c (M := M) (x := x) (a := a) (b := b) (t := t) (d := d)
        obtain ⟨S1, hS1⟩ : ∃ S1, S1 = mu_edge1 S a b t d := ⟨_, rfl⟩
        obtain ⟨M1, hM1⟩ : ∃ M1, M1 = xu_edge M x a b t d := ⟨_, rfl⟩
        rw [← hS1] at sc hK3
        rw [← hM1] at mc
        have rw_ : ∀ j, 0 < j → (j < 11 ∨ 14 < j) → S1 j = S j := fun j h1 h2 => funext fun k => sc.1 j k h2 (by omega)
        have rb : rBd x S1 g M1 := by
          obtain ⟨r5, r15, ra, ru, rt⟩ := hR.2.1
          refine ⟨?_, ?_, fun i a0 a1 => ?_, fun j j0 j1 => ?_, fun e e0 e1 => ?_⟩
          · rw [mc.1 _ _ (by omega) (by omega), sc.1 0 9 (by omega) (by omega)]; exact r5
          · rw [mc.2.2.1, sc.2.2.1, r15]
          · rw [sc.1 0 9 (by omega) (by omega)] at a1
            have A := rA_c (M' := M1) (ra i a0 a1) a0 (by omega) (mc.1 _ _ (by omega) (by omega)) (fun z q q1 q2 => mc.1 _ _ (by omega) (by omega))
            unfold rA at A ⊢
            rw [rw_ 1 (by decide) (by decide), rw_ 2 (by decide) (by decide), rw_ 3 (by decide) (by decide), rw_ 4 (by decide) (by decide), rw_ 5 (by decide) (by decide), rw_ 6 (by decide) (by decide), rw_ 7 (by decide) (by decide), rw_ 8 (by decide) (by decide), rw_ 9 (by decide) (by decide)]
            exact A
          · rw [mc.1 _ _ (by omega) (by omega), rw_ 10 (by decide) (by decide)]; exact ru j j0 j1
          · rw [sc.2.2.1] at e1
            by_cases c : e = S 0 15
            · rw [c, sc.2.2.2.1, sc.2.2.2.2.1, sc.2.2.2.2.2.1, sc.2.2.2.2.2.2, ← r18, mc.2.2.2.1, mc.2.2.2.2.1, mc.2.2.2.2.2.1, mc.2.2.2.2.2.2]
              exact ⟨rfl, rfl, rfl, rfl⟩
            · rw [mc.2.1 _ e (by omega) (by omega) (by omega), mc.2.1 (x + 23) e (by omega) (by omega) (by omega), mc.2.1 (x + 24) e (by omega) (by omega) (by omega), mc.2.1 (x + 25) e (by omega) (by omega) (by omega), sc.2.1 11 e (by decide) (by decide) c, sc.2.1 12 e (by decide) (by decide) c, sc.2.1 13 e (by decide) (by decide) c, sc.2.1 14 e (by decide) (by decide) c]
              exact rt e e0 (by omega)
        have mb : mB S1 := by
          unfold mB mm_uok at hB ⊢
          rw [sc.1 0 9 (by omega) (by omega), sc.2.2.1, rw_ 1 (by decide) (by decide), rw_ 2 (by decide) (by decide), rw_ 3 (by decide) (by decide), rw_ 4 (by decide) (by decide), rw_ 5 (by decide) (by decide), rw_ 6 (by decide) (by decide), rw_ 7 (by decide) (by decide), rw_ 10 (by decide) (by decide)]
          refine ⟨hB.1, by omega, hB.2.2.1, hB.2.2.2.1, fun e e0 e1 => ?_, hB.2.2.2.2.2⟩
          by_cases c : e = S 0 15
          · rw [c, sc.2.2.2.1, sc.2.2.2.2.1, sc.2.2.2.2.2.1, sc.2.2.2.2.2.2]
            exact ⟨c1.1, c1.2, c2.1, c2.2⟩
          · rw [sc.2.1 11 e (by decide) (by decide) c, sc.2.1 12 e (by decide) (by decide) c, sc.2.1 13 e (by decide) (by decide) c, sc.2.1 14 e (by decide) (by decide) c]
            exact hB.2.2.2.2.1 e e0 (by omega)
        refine jx_runL (o := jo_X0) (cs := cs_X0_edge) (hf := jx_nh) jo_X0_ok hc_X0_edge (jx_HK_nil rfl) (fun p => p == 124) 80 ?_
        simp only [jw, ju, jx_tg, Int.cast_ofNat_Int, Int.reduceAdd, Int.reduceToNat, Nat.reduceAdd, Nat.reduceMul, Nat.reduceBEq, Nat.reduceLeDiff, Int.reduceLE, Int.reduceLT, Int.reduceEq, Int.reduceNeg, Int.reduceSub, Int.reduceMul, not_false_eq_true, true_and, and_true, and_self, Bool.or_false, Bool.false_or, Bool.or_true, Bool.true_or, List.length_nil, List.length_cons, Nat.zero_le, or_true, true_or, Nat.le_refl, ↓reduceIte, Nat.reduceEqDiff, forall_const, false_and, and_false, false_implies, implies_true, not_true_eq_false, or_false, false_or, ne_eq, jd_X0_edge, jf_X0, r18, js_X0_changed, js_X0_isAct, js_X0_isIn, js_X0_refuse, cs_X0_edge, jx_ck_c]
        refine ⟨by omega, fun c4 => ⟨by omega, by omega, by omega, by omega, ?_⟩, fun c4 => by omega⟩
        rw [show jx_u (jx_u (jx_u (jx_u (jx_u M (x + 22) (S 0 15) a) (x + 23) (S 0 15) b) (x + 24) (S 0 15) t) (x + 25) (S 0 15) d) x 18 (S 0 15 + 1) = M1 by rw [hM1, ← r18]; rfl]
        refine jx_runL (o := jo_X0) (cs := cs_X0_edge) (hf := jx_nh) jo_X0_ok hc_X0_edge (jx_HK_nil rfl) (fun _ => false) 30 ?_
        simp only [jw, ju, jx_tg, Int.cast_ofNat_Int, Int.reduceAdd, Int.reduceToNat, Nat.reduceAdd, Nat.reduceMul, Nat.reduceBEq, Nat.reduceLeDiff, Int.reduceLE, Int.reduceLT, Int.reduceEq, Int.reduceNeg, Int.reduceSub, Int.reduceMul, not_false_eq_true, true_and, and_true, and_self, Bool.or_false, Bool.false_or, Bool.or_true, Bool.true_or, List.length_nil, List.length_cons, Nat.zero_le, or_true, true_or, Nat.le_refl, ↓reduceIte, Nat.reduceEqDiff, forall_const, false_and, and_false, false_implies, implies_true, not_true_eq_false, or_false, false_or, ne_eq, jd_X0_edge, jf_X0, js_X0_changed, js_X0_isAct, js_X0_isIn, js_X0_refuse, cs_X0_edge, jx_ck_c]
        refine ⟨S1, ⟨x0, rb, mb⟩, fun M' k1 => ?_⟩
        have e18 : M' x 18 = S 0 15 + 1 := by rw [k1.2.2.2 x 18 (by omega) (by omega) (by omega) (by omega), mc.2.2.1, r18]
        rw [e18]
        exact ch_fin hR (by rw [sc.1 0 9 (by omega) (by omega)]; exact h9.2) rb (fun z i w => mc.1 z i (by unfold qMs qSl at w; omega) (by unfold qMs qSl at w; omega)) ⟨sc.1 _ _ (by omega) (by omega), sc.1 _ _ (by omega) (by omega)⟩ ⟨rw_ _ (by decide) (by decide), rw_ _ (by decide) (by decide), rw_ _ (by decide) (by decide), rw_ _ (by decide) (by decide), rw_ _ (by decide) (by decide)⟩ hK3 M' k1
    refine jx_runL (o := jo_X0) (cs := cs_X0_edge) (hf := jx_nh) jo_X0_ok hc_X0_edge (jx_HK_nil rfl) (fun p => p == 16 || p == 50 || p == 57) 60 ?_
    simp only [jw, ju, jx_tg, Int.cast_ofNat_Int, Int.reduceAdd, Int.reduceToNat, Nat.reduceAdd, Nat.reduceMul, Nat.reduceBEq, Nat.reduceLeDiff, Int.reduceLE, Int.reduceLT, Int.reduceEq, Int.reduceNeg, Int.reduceSub, Int.reduceMul, not_false_eq_true, true_and, and_true, and_self, Bool.or_false, Bool.false_or, Bool.or_true, Bool.true_or, List.length_nil, List.length_cons, Nat.zero_le, or_true, true_or, Nat.le_refl, ↓reduceIte, Nat.reduceEqDiff, forall_const, false_and, and_false, false_implies, implies_true, not_true_eq_false, or_false, false_or, ne_eq, jd_X0_edge, jf_X0, r5, js_X0_changed, js_X0_isAct, js_X0_isIn, js_X0_refuse, cs_X0_edge, jx_ck_c]
    exact ⟨⟨ra, by omega⟩, fun c => ⟨⟨rb, by omega⟩, fun c2 => ⟨rt, fun c3 => ⟨rd, fun c4 => at57 ⟨c, c2⟩ ⟨c3, c4⟩, fun c4 => at50 ⟨c, c2⟩ (fun z => c4 z.2)⟩, fun c3 => at50 ⟨c, c2⟩ (fun z => c3 z.1)⟩, fun c2 => at16 (fun z => c2 z.2)⟩, fun c => at16 (fun z => c z.1)⟩
  · exact hS.elim
