/-! LoopLane: copied, copy -/
set_option maxRecDepth 100000
/-- how copied ends -/
def js_X0_copied : jx_Sp := fun as g M Po => match as with
  | [(60, _, x), (0, _, s), (0, _, i), (0, _, t), (0, _, j), (0, _, n)] => ∃ S, (rR x S g M ∧ mW S ∧ (jx_r s ∧ jx_r i ∧ jx_r t ∧ jx_r j ∧ jx_r n)) ∧
     (¬ ((0 ≤ s ∧ s < 8) ∧ (0 ≤ t ∧ t < 8)) → Po (4, 3, (g.1 : Int) + 2) (g.1 + 3, g.2) M) ∧ ((0 ≤ s ∧ s < 8) ∧ (0 ≤ t ∧ t < 8) → (S 21 s = 0 ∨ S 21 t = 0 → Po (4, 6, x + 51) g M) ∧ (¬ (S 21 s = 0 ∨ S 21 t = 0) → (S 22 s = 0 ∨ S 22 t = 0 → Po (4, 2, (g.1 : Int) + 2) (g.1 + 3, g.2) M) ∧
       (¬ (S 22 s = 0 ∨ S 22 t = 0) → (n < 0 → Po (4, 6, x + 53) g M) ∧ (¬ n < 0 → (i < 0 ∨ j < 0 ∨ S 21 s < i + n ∨ S 21 t < j + n → Po (4, 6, x + 55) (g.1 + 3, g.2) M) ∧ (¬ (i < 0 ∨ j < 0 ∨ S 21 s < i + n ∨ S 21 t < j + n) → Po (0, 0, n) g (jx_cp M (M (x + 5 + s) 0) i (M (x + 5 + t) 0) j n))))))
  | _ => False
def cs_X0_copied : jx_Cs := [(789, 3, 0, 0, js_X0_need)]
theorem hc_X0_copied {D : jx_D} {l : Launch} : jx_CsOK D l "LoopLane" 5 cs_X0_copied := List.forall_mem_cons.mpr ⟨jc_X0_263 (jt_X0_need l) (fun as g M Po (h : js_X0_need as g M Po) => by unfold js_X0_need at h; split at h <;> first | exact h.elim | exact ⟨_, _, _, rfl, rfl⟩) (by decide), fun _ h => absurd h List.not_mem_nil⟩
abbrev th_X0_copied : List (Nat × Nat × Nat × Nat) := [(85, 99, 100, 448)]
theorem jh_X0_copied : jx_hf th_X0_copied 46 1 = none ∧ jx_hf th_X0_copied 46 2 = none ∧ jx_hf th_X0_copied 46 3 = none ∧ jx_hf th_X0_copied 46 4 = none ∧ jx_hf th_X0_copied 46 5 = none ∧ jx_hf th_X0_copied 46 6 = none ∧ jx_hf th_X0_copied 82 1 = none ∧ jx_hf th_X0_copied 82 2 = none ∧ jx_hf th_X0_copied 82 3 = none ∧ jx_hf th_X0_copied 82 4 = none ∧ jx_hf th_X0_copied 82 5 = none ∧ jx_hf th_X0_copied 82 6 = none ∧ jx_hf th_X0_copied 94 1 = none ∧ jx_hf th_X0_copied 94 2 = none ∧ jx_hf th_X0_copied 94 3 = some 100 ∧ jx_hf th_X0_copied 94 4 = none ∧ jx_hf th_X0_copied 94 5 = none ∧ jx_hf th_X0_copied 94 6 = none := by refine ⟨?_, ?_, ?_, ?_, ?_, ?_, ?_, ?_, ?_, ?_, ?_, ?_, ?_, ?_, ?_, ?_, ?_, ?_⟩ <;> rfl
theorem jk_X0_copied : ∀ q ∈ th_X0_copied, jx_ct q.2.2.2 := by unfold th_X0_copied; simp [jx_ct]
set_option maxHeartbeats 4000000 in
theorem jt_X0_copied (l : Launch) : jx_Ct l yX0_copied (wsW_ yX0_copied cX0_copied 11 (some .int) th_X0_copied) 5 6 4000 js_X0_copied := by
  refine jx_Ct_w (rc := 0) (by decide) rfl (fun D as g M Po hS => ?_)
  unfold js_X0_copied at hS
  split at hS
  · rename_i n1 x n2 s n3 i n4 t n5 j n6 n
    obtain ⟨S, ⟨hR, hW, rs, ri, rt, rj, rn⟩, hP1, hP2⟩ := hS
    have hB := hW.1
    have h9 := hB.1
    have x0 := hR.1.1
    have hw := hW.2.2.2.2.2.1
    refine ⟨Nat.le_of_ble_eq_true rfl, ?_⟩
    by_cases cs : 0 ≤ s ∧ s < 8
    · by_cases ct : 0 ≤ t ∧ t < 8
      · have hP3 := hP2 ⟨cs, ct⟩
        have hs1 := hR.2.2.2.2.2.2.1 s cs.1 cs.2
        have ht1 := hR.2.2.2.2.2.2.1 t ct.1 ct.2
        obtain ⟨a, ha⟩ : ∃ a, a = M (x + 5 + s) 0 := ⟨_, rfl⟩
        obtain ⟨b, hb⟩ : ∃ b, b = M (x + 5 + t) 0 := ⟨_, rfl⟩
        have na : a < 0 ↔ S 21 s = 0 := by
          rw [ha]
          exact ⟨fun z => Classical.byContradiction fun w => by have := (hs1.2 w).1; omega, fun z => by have := hs1.1 z; omega⟩
        have nb : b < 0 ↔ S 21 t = 0 := by
          rw [hb]
          exact ⟨fun z => Classical.byContradiction fun w => by have := (ht1.2 w).1; omega, fun z => by have := ht1.1 z; omega⟩
        refine jx_runL (o := jo_X0) (cs := cs_X0_copied) (hf := jx_hf th_X0_copied) jo_X0_ok hc_X0_copied (jx_HK_LL rfl jk_X0_copied) (fun p => p == 49) 60 ?_
        simp only [jw, ju, jx_tg, Int.cast_ofNat_Int, Int.reduceAdd, Int.reduceToNat, Nat.reduceAdd, Nat.reduceMul, Nat.reduceBEq, Nat.reduceLeDiff, Int.reduceLE, Int.reduceLT, Int.reduceEq, Int.reduceNeg, Int.reduceSub, Int.reduceMul, not_false_eq_true, true_and, and_true, and_self, Bool.or_false, Bool.false_or, Bool.or_true, Bool.true_or, List.length_nil, List.length_cons, Nat.zero_le, or_true, true_or, Nat.le_refl, ↓reduceIte, Nat.reduceEqDiff, forall_const, false_and, and_false, false_implies, implies_true, not_true_eq_false, or_false, false_or, ne_eq, jd_X0_copied, jf_X0, show x + 3 + 1 + (1 + s) = x + 5 + s by omega, show x + 3 + 1 + (1 + t) = x + 5 + t by omega, ← ha, ← hb, js_X0_need, cs_X0_copied, jx_ck_c, jh_X0_copied, jx_ex]
        refine ⟨cs, ct, fun c => ⟨by decide, ?_⟩, fun c => ⟨fun c2 => ⟨by decide, ?_⟩, fun c2 => ⟨by decide, ?_⟩⟩⟩
        · rw [show x + 49 - -2 = x + 51 by omega]; exact hP3.1 (.inl (na.mp c))
        · rw [show x + 49 - -2 = x + 51 by omega]; exact hP3.1 (.inr (nb.mp c2))
        have zs : S 21 s ≠ 0 := fun z => c (na.mpr z)
        have zt : S 21 t ≠ 0 := fun z => c2 (nb.mpr z)
        have hP4 := hP3.2 (by omega)
        have hs2 := hs1.2 zs
        have ht2 := ht1.2 zt
        rw [← ha] at hs2
        rw [← hb] at ht2
        refine jx_runL (o := jo_X0) (cs := cs_X0_copied) (hf := jx_hf th_X0_copied) jo_X0_ok hc_X0_copied (jx_HK_LL rfl jk_X0_copied) (fun p => p == 54) 20 ?_
        simp only [jw, ju, jx_tg, Int.cast_ofNat_Int, Int.reduceAdd, Int.reduceToNat, Nat.reduceAdd, Nat.reduceMul, Nat.reduceBEq, Nat.reduceLeDiff, Int.reduceLE, Int.reduceLT, Int.reduceEq, Int.reduceNeg, Int.reduceSub, Int.reduceMul, not_false_eq_true, true_and, and_true, and_self, Bool.or_false, Bool.false_or, Bool.or_true, Bool.true_or, List.length_nil, List.length_cons, Nat.zero_le, or_true, true_or, Nat.le_refl, ↓reduceIte, Nat.reduceEqDiff, forall_const, false_and, and_false, false_implies, implies_true, not_true_eq_false, or_false, false_or, ne_eq, jd_X0_copied, jf_X0, ← ha, js_X0_need, cs_X0_copied, jx_ck_c, jh_X0_copied, jx_ex]
        by_cases ds : S 22 s = 0
        · refine jx_s_msg (x := 2) (hf := jx_hf th_X0_copied) (jx_HK_LL rfl jk_X0_copied) jx_xg2 (jx_t_cast (n1 := "[I") (n2 := "[J") (k := 10) (n := S 21 s) (by decide +kernel) q866 (by decide) (hs2.2.2 ds) (by decide) (.inr ⟨.int, rfl, by decide +kernel⟩) jx_nocast_IJ (by decide +kernel) (by decide +kernel) (by decide) (by decide)) (by simp) ⟨by decide, by decide⟩ ?_
          exact hP4.1 (.inl ds)
        · refine jx_s_castY (nm := "[J") (k := 11) (n := S 21 s) (by decide +kernel) q866 (by decide) (hs2.2.1 ds).1 (by decide) (by decide) (by decide) (.inr ⟨.long, rfl, by decide +kernel⟩) ?_
          refine jx_runL (o := jo_X0) (cs := cs_X0_copied) (hf := jx_hf th_X0_copied) jo_X0_ok hc_X0_copied (jx_HK_LL rfl jk_X0_copied) (fun p => p == 64) 20 ?_
          simp only [jw, ju, jx_tg, Int.cast_ofNat_Int, Int.reduceAdd, Int.reduceToNat, Nat.reduceAdd, Nat.reduceMul, Nat.reduceBEq, Nat.reduceLeDiff, Int.reduceLE, Int.reduceLT, Int.reduceEq, Int.reduceNeg, Int.reduceSub, Int.reduceMul, not_false_eq_true, true_and, and_true, and_self, Bool.or_false, Bool.false_or, Bool.or_true, Bool.true_or, List.length_nil, List.length_cons, Nat.zero_le, or_true, true_or, Nat.le_refl, ↓reduceIte, Nat.reduceEqDiff, forall_const, false_and, and_false, false_implies, implies_true, not_true_eq_false, or_false, false_or, ne_eq, jd_X0_copied, jf_X0, ← hb, js_X0_need, cs_X0_copied, jx_ck_c, jh_X0_copied, jx_ex]
          by_cases dt : S 22 t = 0
          · refine jx_s_msg (x := 2) (hf := jx_hf th_X0_copied) (jx_HK_LL rfl jk_X0_copied) jx_xg2 (jx_t_cast (n1 := "[I") (n2 := "[J") (k := 10) (n := S 21 t) (by decide +kernel) q866 (by decide) (ht2.2.2 dt) (by decide) (.inr ⟨.int, rfl, by decide +kernel⟩) jx_nocast_IJ (by decide +kernel) (by decide +kernel) (by decide) (by decide)) (by simp) ⟨by decide, by decide⟩ ?_
            exact hP4.1 (.inr dt)
          · refine jx_s_castY (nm := "[J") (k := 11) (n := S 21 t) (by decide +kernel) q866 (by decide) (ht2.2.1 dt).1 (by decide) (by decide) (by decide) (.inr ⟨.long, rfl, by decide +kernel⟩) ?_
            have hP5 := hP4.2 (by omega)
            refine jx_runL (o := jo_X0) (cs := cs_X0_copied) (hf := jx_hf th_X0_copied) jo_X0_ok hc_X0_copied (jx_HK_LL rfl jk_X0_copied) (fun p => p == 94) 40 ?_
            simp only [jw, ju, jx_tg, Int.cast_ofNat_Int, Int.reduceAdd, Int.reduceToNat, Nat.reduceAdd, Nat.reduceMul, Nat.reduceBEq, Nat.reduceLeDiff, Int.reduceLE, Int.reduceLT, Int.reduceEq, Int.reduceNeg, Int.reduceSub, Int.reduceMul, not_false_eq_true, true_and, and_true, and_self, Bool.or_false, Bool.false_or, Bool.or_true, Bool.true_or, List.length_nil, List.length_cons, Nat.zero_le, or_true, true_or, Nat.le_refl, ↓reduceIte, Nat.reduceEqDiff, forall_const, false_and, and_false, false_implies, implies_true, not_true_eq_false, or_false, false_or, ne_eq, jd_X0_copied, jf_X0, js_X0_need, cs_X0_copied, jx_ck_c, jh_X0_copied, jx_ex]
            refine ⟨rn, fun c3 => ⟨by decide, ?_⟩, fun c3 => ⟨by decide, ?_⟩⟩
            · rw [show x + 49 - -4 = x + 53 by omega]; exact hP5.1 c3
            have hP6 := hP5.2 c3
            by_cases cc : i < 0 ∨ j < 0 ∨ S 21 s < i + n ∨ S 21 t < j + n
            · refine jx_s_copyF (hf := jx_hf th_X0_copied) (jx_HK_LL rfl jk_X0_copied) jx_xg3 (by decide +kernel) q867 (by decide) ri rj rn (by omega) (by decide) ⟨by decide, by decide⟩ ?_
              show jx_V D l (yX0_copied.cls, cX0_copied, 11, 0, th_X0_copied, 5, 6, 4000, yX0_copied.name) Po 100 _ [jx_ex 3 _] _ _ _
              refine jx_runL (o := jo_X0) (cs := cs_X0_copied) (hf := jx_hf th_X0_copied) jo_X0_ok hc_X0_copied (jx_HK_LL rfl jk_X0_copied) (fun p => p == 109) 20 ?_
              simp only [jw, ju, jx_tg, Int.cast_ofNat_Int, Int.reduceAdd, Int.reduceToNat, Nat.reduceAdd, Nat.reduceMul, Nat.reduceBEq, Nat.reduceLeDiff, Int.reduceLE, Int.reduceLT, Int.reduceEq, Int.reduceNeg, Int.reduceSub, Int.reduceMul, not_false_eq_true, true_and, and_true, and_self, Bool.or_false, Bool.false_or, Bool.or_true, Bool.true_or, List.length_nil, List.length_cons, Nat.zero_le, or_true, true_or, Nat.le_refl, ↓reduceIte, Nat.reduceEqDiff, forall_const, false_and, and_false, false_implies, implies_true, not_true_eq_false, or_false, false_or, ne_eq, jd_X0_copied, jf_X0, js_X0_need, cs_X0_copied, jx_ck_c, jh_X0_copied, jx_ex]
              refine jx_rng fun _ hs => ?_
              have hg := jx_okk (hs _ List.mem_cons_self) (by decide) (by decide)
              refine jx_s_athrow (hf := jx_hf th_X0_copied) (jx_HK_LL rfl jk_X0_copied) (by decide +kernel) (by decide) hg ?_
              have := hP6.1 cc
              rw [show x + 55 = x + 1 + (48 + 6) by omega] at this
              exact this
            · refine jx_s_copy (by decide +kernel) q867 (by omega) (by decide) ?_
              refine jx_runL (o := jo_X0) (cs := cs_X0_copied) (hf := jx_hf th_X0_copied) jo_X0_ok hc_X0_copied (jx_HK_LL rfl jk_X0_copied) (fun _ => false) 20 ?_
              simp only [jw, ju, jx_tg, Int.cast_ofNat_Int, Int.reduceAdd, Int.reduceToNat, Nat.reduceAdd, Nat.reduceMul, Nat.reduceBEq, Nat.reduceLeDiff, Int.reduceLE, Int.reduceLT, Int.reduceEq, Int.reduceNeg, Int.reduceSub, Int.reduceMul, not_false_eq_true, true_and, and_true, and_self, Bool.or_false, Bool.false_or, Bool.or_true, Bool.true_or, List.length_nil, List.length_cons, Nat.zero_le, or_true, true_or, Nat.le_refl, ↓reduceIte, Nat.reduceEqDiff, forall_const, false_and, and_false, false_implies, implies_true, not_true_eq_false, or_false, false_or, ne_eq, jd_X0_copied, jf_X0, js_X0_need, cs_X0_copied, jx_ck_c, jh_X0_copied, jx_ex]
              rw [ha, hb]
              exact hP6.2 cc
      · refine jx_runL (o := jo_X0) (cs := cs_X0_copied) (hf := jx_hf th_X0_copied) jo_X0_ok hc_X0_copied (jx_HK_LL rfl jk_X0_copied) (fun p => p == 19) 60 ?_
        simp only [jw, ju, jx_tg, Int.cast_ofNat_Int, Int.reduceAdd, Int.reduceToNat, Nat.reduceAdd, Nat.reduceMul, Nat.reduceBEq, Nat.reduceLeDiff, Int.reduceLE, Int.reduceLT, Int.reduceEq, Int.reduceNeg, Int.reduceSub, Int.reduceMul, not_false_eq_true, true_and, and_true, and_self, Bool.or_false, Bool.false_or, Bool.or_true, Bool.true_or, List.length_nil, List.length_cons, Nat.zero_le, or_true, true_or, Nat.le_refl, ↓reduceIte, Nat.reduceEqDiff, forall_const, false_and, and_false, false_implies, implies_true, not_true_eq_false, or_false, false_or, ne_eq, jd_X0_copied, jf_X0, js_X0_need, cs_X0_copied, jx_ck_c, jh_X0_copied, jx_ex]
        refine ⟨cs, ?_⟩
        refine jx_s_msg (x := 3) (hf := jx_hf th_X0_copied) (jx_HK_LL rfl jk_X0_copied) jx_xg3 (jx_t_aaload (k := 31) (by decide) (by decide) rfl (by decide +kernel) rt ct) (by decide) ⟨by decide, by decide⟩ ?_
        exact hP1 (fun z => ct z.2)
    · refine jx_runL (o := jo_X0) (cs := cs_X0_copied) (hf := jx_hf th_X0_copied) jo_X0_ok hc_X0_copied (jx_HK_LL rfl jk_X0_copied) (fun p => p == 8) 60 ?_
      simp only [jw, ju, jx_tg, Int.cast_ofNat_Int, Int.reduceAdd, Int.reduceToNat, Nat.reduceAdd, Nat.reduceMul, Nat.reduceBEq, Nat.reduceLeDiff, Int.reduceLE, Int.reduceLT, Int.reduceEq, Int.reduceNeg, Int.reduceSub, Int.reduceMul, not_false_eq_true, true_and, and_true, and_self, Bool.or_false, Bool.false_or, Bool.or_true, Bool.true_or, List.length_nil, List.length_cons, Nat.zero_le, or_true, true_or, Nat.le_refl, ↓reduceIte, Nat.reduceEqDiff, forall_const, false_and, and_false, false_implies, implies_true, not_true_eq_false, or_false, false_or, ne_eq, jd_X0_copied, jf_X0, js_X0_need, cs_X0_copied, jx_ck_c, jh_X0_copied, jx_ex]
      refine jx_s_msg (x := 3) (hf := jx_hf th_X0_copied) (jx_HK_LL rfl jk_X0_copied) jx_xg3 (jx_t_aaload (k := 31) (by decide) (by decide) rfl (by decide +kernel) rs cs) (by decide) ⟨by decide, by decide⟩ ?_
      exact hP1 (fun z => cs z.1)
  · exact hS.elim
theorem mm_copy_v {S R : jx_M} {p q : Int} : ∀ n : Nat, (∀ j k, j ≠ 19 → mm_copy S R p q n j k = S j k) ∧ (∀ k, mm_copy S R p q n 19 k = if q ≤ k ∧ k < q + n then R 19 (p + (k - q)) else S 19 k)
  | 0 => ⟨fun _ _ _ => rfl, fun k => by
    rw [if_neg (by omega)]
    rfl⟩
  | n + 1 => by
    obtain ⟨h1, h2⟩ := mm_copy_v (S := S) (R := R) (p := p) (q := q) n
    refine ⟨fun j k h => ?_, fun k => ?_⟩
    · show jx_u (mm_copy S R p q n) 19 (q + n) (R 19 (p + n)) j k = _
      rw [jx_u_a _ _ _ _ _ _ h]; exact h1 j k h
    · show jx_u (mm_copy S R p q n) 19 (q + n) (R 19 (p + n)) 19 k = _
      by_cases c : k = q + n
      · rw [c, jx_u_eq, if_pos (by omega), show p + (q + (n : Int) - q) = p + n by omega]
      · rw [jx_u_j _ _ _ _ _ _ c, h2 k]
        by_cases d : q ≤ k ∧ k < q + n
        · rw [if_pos d, if_pos (by omega)]
        · rw [if_neg d, if_neg (by omega)]
theorem rSl_copy {x s i t j n : Int} {S S' : jx_M} {g : jx_S} {M : jx_M} (hr : mm_rows S) (x0 : 0 ≤ x) (hs : 0 ≤ s ∧ s < 8) (ht : 0 ≤ t ∧ t < 8) (c1 : S 21 s ≠ 0) (c2 : S 22 s ≠ 0) (d1 : S 21 t ≠ 0) (d2 : S 22 t ≠ 0) (hi : 0 ≤ i ∧ 0 ≤ j ∧ 0 ≤ n ∧ i + n ≤ S 21 s ∧ j + n ≤ S 21 t) (hS : S' = mm_copy S S (40 * s + i) (40 * t + j) n.toNat) (h : rSl x S g M) : rSl x S' g (jx_cp M (M (x + 5 + s) 0) i (M (x + 5 + t) 0) j n) := by
  obtain ⟨v1, v2⟩ := mm_copy_v (S := S) (R := S) (p := 40 * s + i) (q := 40 * t + j) n.toNat
  rw [← hS] at v1 v2
  have ht1 := (h.1 t ht.1 ht.2).2 d1
  have hs1 := (h.1 s hs.1 hs.2).2 c1
  have e21 : S' 21 = S 21 := funext fun k => v1 21 k (by decide)
  have e22 : S' 22 = S 22 := funext fun k => v1 22 k (by decide)
  have mh : ∀ z k, z ≠ M (x + 5 + t) 0 → jx_cp M (M (x + 5 + s) 0) i (M (x + 5 + t) 0) j n z k = M z k := fun z k hz => if_neg (fun w => hz w.1)
  refine ⟨fun u u0 u1 => ?_, fun u w u0 u1 w0 w1 hn a1 a2 => ?_⟩
  · have hu := h.1 u u0 u1
    have hru := hr u u0 u1
    have hrs := hr s hs.1 hs.2
    have hrt := hr t ht.1 ht.2
    unfold rS1 at hu ⊢
    rw [e21, e22, mh _ _ (by have := ht1.1; omega)]
    refine ⟨hu.1, fun w => ⟨(hu.2 w).1, fun d => ⟨((hu.2 w).2.1 d).1, fun k k0 k1 => ?_⟩, (hu.2 w).2.2⟩⟩
    have old := ((hu.2 w).2.1 d).2 k k0 k1
    by_cases c : u = t
    · rw [c] at old k1 ⊢
      rw [v2]
      unfold jx_cp
      by_cases ck : j ≤ k ∧ k < j + n
      · rw [if_pos ⟨rfl, ck⟩, if_pos (by omega), (hs1.2.1 c2).2 _ (by omega) (by omega)]
        congr 1
        omega
      · rw [if_neg (fun z => ck z.2), if_neg (by omega)]
        exact old
    · have hd := h.2 u t u0 u1 ht.1 ht.2 c w d1
      rw [mh _ _ hd, v2, if_neg (by omega)]
      exact old
  · rw [e21] at a1 a2
    rw [mh _ _ (by have := ht1.1; omega), mh _ _ (by have := ht1.1; omega)]
    exact h.2 u w u0 u1 w0 w1 hn a1 a2
def js_X0_copy : jx_Sp := fun as g M Po => match as with
  | [(60, _, x), (0, _, s), (0, _, i), (0, _, t), (0, _, j), (0, _, n)] => ∃ S, (rR x S g M ∧ mW S ∧ (jx_r s ∧ jx_r i ∧ jx_r t ∧ jx_r j ∧ jx_r n)) ∧ rK x g M Po 0 (f_copy s i t j n S).1 (f_copy s i t j n S).2
  | _ => False
def cs_X0_copy : jx_Cs := [(1350, 6, 6, 4000, js_X0_copied), (1161, 2, 0, 0, js_X0_refuse)]
theorem hc_X0_copy {D : jx_D} {l : Launch} : jx_CsOK D l "LoopLane" 6 cs_X0_copy := List.forall_mem_cons.mpr ⟨jc_X0_450 (jt_X0_copied l) (fun as g M Po (h : js_X0_copied as g M Po) => by unfold js_X0_copied at h; split at h <;> first | exact h.elim | exact ⟨_, _, _, rfl, rfl⟩) (by decide), List.forall_mem_cons.mpr ⟨jc_X0_387 (jt_X0_refuse l) (fun as g M Po (h : js_X0_refuse as g M Po) => by unfold js_X0_refuse at h; split at h <;> first | exact h.elim | exact ⟨_, _, _, rfl, rfl⟩) (by decide), fun _ h => absurd h List.not_mem_nil⟩⟩
abbrev th_X0_copy : List (Nat × Nat × Nat × Nat) := [(0, 11, 12, 191), (0, 11, 21, 193), (0, 11, 30, 315)]
theorem jh_X0_copy : jx_hf th_X0_copy 8 1 = none ∧ jx_hf th_X0_copy 8 2 = some 12 ∧ jx_hf th_X0_copy 8 3 = some 21 ∧ jx_hf th_X0_copy 8 4 = none ∧ jx_hf th_X0_copy 8 5 = none ∧ jx_hf th_X0_copy 8 6 = some 30 ∧ jx_hf th_X0_copy 17 1 = none ∧ jx_hf th_X0_copy 17 2 = none ∧ jx_hf th_X0_copy 17 3 = none ∧ jx_hf th_X0_copy 17 4 = none ∧ jx_hf th_X0_copy 17 5 = none ∧ jx_hf th_X0_copy 17 6 = none ∧ jx_hf th_X0_copy 26 1 = none ∧ jx_hf th_X0_copy 26 2 = none ∧ jx_hf th_X0_copy 26 3 = none ∧ jx_hf th_X0_copy 26 4 = none ∧ jx_hf th_X0_copy 26 5 = none ∧ jx_hf th_X0_copy 26 6 = none ∧ jx_hf th_X0_copy 38 1 = none ∧ jx_hf th_X0_copy 38 2 = none ∧ jx_hf th_X0_copy 38 3 = none ∧ jx_hf th_X0_copy 38 4 = none ∧ jx_hf th_X0_copy 38 5 = none ∧ jx_hf th_X0_copy 38 6 = none := by refine ⟨?_, ?_, ?_, ?_, ?_, ?_, ?_, ?_, ?_, ?_, ?_, ?_, ?_, ?_, ?_, ?_, ?_, ?_, ?_, ?_, ?_, ?_, ?_, ?_⟩ <;> rfl
theorem jk_X0_copy : ∀ q ∈ th_X0_copy, jx_ct q.2.2.2 := by unfold th_X0_copy; simp [jx_ct]
set_option maxHeartbeats 4000000 in
theorem jt_X0_copy (l : Launch) : jx_Ct l yX0_copy (wsW_ yX0_copy cX0_copy 7 (some .int) th_X0_copy) 6 6 4000 js_X0_copy := by
  refine jx_Ct_w (rc := 0) (by decide) rfl (fun D as g M Po hS => ?_)
  unfold js_X0_copy at hS
  split at hS
  · rename_i n1 x n2 s n3 i n4 t n5 j n6 n
    obtain ⟨S, ⟨hR, hW, rr⟩, hK⟩ := hS
    have hB := hW.1
    have h9 := hB.1
    have x0 := hR.1.1
    unfold f_copy at hK
    simp only [rK_ite, mno] at hK
    refine ⟨Nat.le_of_ble_eq_true rfl, ?_⟩
    have no : ∀ (m : Nat) (w : Int), -11 ≤ w → w ≤ -1 → rK x g M Po 0 w (mu_no S 0 w) → Po (0, 0, w) (g.1 + m, g.2) (xu_refuse M x w) := fun m w e3 e4 hk => rK_no h9.2 ⟨e3, e4⟩ (rR_g h9.2 hR rG_add) ⟨rG_add, fun _ _ _ => rfl⟩ hk
    have at30 : ∀ (m : Nat) (z k : Int) (u : Nat × Nat), u.1 ≤ 6 → u.2 ≤ 4000 → 1 ≤ k → k ≤ 11 → z = x + 49 + k → rK x g M Po 0 (-k) (mu_no S 0 (-k)) → jx_V D l (yX0_copy.cls, cX0_copy, 7, 0, th_X0_copy, 6, 6, 4000, yX0_copy.name) Po 30 [(60, n1, x), (0, n2, s), (0, n3, i), (0, n4, t), (0, n5, j), (0, n6, n), (5, 0, 0)] [(64, 0, z)] (6, 4000) (g.1 + m, g.2) M := by
      intro m z k u u1 u2 k1 k2 hz hk
      have e6 := hR.2.2.2.2.2.1.2.2.2.2 k k1 k2
      rw [← hz] at e6
      refine jx_runL (o := jo_X0) (cs := cs_X0_copy) (hf := jx_hf th_X0_copy) jo_X0_ok hc_X0_copy (jx_HK_LL rfl jk_X0_copy) (fun _ => false) 20 ?_
      simp only [jw, ju, jx_tg, Int.cast_ofNat_Int, Int.reduceAdd, Int.reduceToNat, Nat.reduceAdd, Nat.reduceMul, Nat.reduceBEq, Nat.reduceLeDiff, Int.reduceLE, Int.reduceLT, Int.reduceEq, Int.reduceNeg, Int.reduceSub, Int.reduceMul, not_false_eq_true, true_and, and_true, and_self, Bool.or_false, Bool.false_or, Bool.or_true, Bool.true_or, List.length_nil, List.length_cons, Nat.zero_le, or_true, true_or, Nat.le_refl, ↓reduceIte, Nat.reduceEqDiff, forall_const, false_and, and_false, false_implies, implies_true, not_true_eq_false, or_false, false_or, ne_eq, jd_X0_copy, jf_X0, e6, js_X0_copied, js_X0_refuse, cs_X0_copy, jx_ck_c, jh_X0_copy, jx_ex]
      exact ⟨by omega, no m _ (by omega) (by omega) hk⟩
    refine jx_runL (o := jo_X0) (cs := cs_X0_copy) (hf := jx_hf th_X0_copy) jo_X0_ok hc_X0_copy (jx_HK_LL rfl jk_X0_copy) (fun p => p == 30) 30 ?_
    simp only [jw, ju, jx_tg, Int.cast_ofNat_Int, Int.reduceAdd, Int.reduceToNat, Nat.reduceAdd, Nat.reduceMul, Nat.reduceBEq, Nat.reduceLeDiff, Int.reduceLE, Int.reduceLT, Int.reduceEq, Int.reduceNeg, Int.reduceSub, Int.reduceMul, not_false_eq_true, true_and, and_true, and_self, Bool.or_false, Bool.false_or, Bool.or_true, Bool.true_or, List.length_nil, List.length_cons, Nat.zero_le, or_true, true_or, Nat.le_refl, ↓reduceIte, Nat.reduceEqDiff, forall_const, false_and, and_false, false_implies, implies_true, not_true_eq_false, or_false, false_or, ne_eq, jd_X0_copy, jf_X0, js_X0_copied, js_X0_refuse, cs_X0_copy, jx_ck_c, jh_X0_copy, jx_ex]
    refine ⟨S, ⟨hR, hW, rr⟩, fun c => no 3 _ (by decide) (by decide) (hK.2 c), fun c => ⟨fun c2 => ?_, fun c2 => ⟨fun c3 => no 3 _ (by decide) (by decide) (((hK.1 c).2 c2).1 c3), fun c3 => ⟨fun c4 => ?_, fun c4 => ⟨fun c5 => ?_, fun c5 => ?_⟩⟩⟩⟩⟩
    · exact at30 0 _ 2 (0, 0) (by decide) (by decide) (by decide) (by decide) (by omega) ((hK.1 c).1 c2)
    · exact at30 0 _ 4 (0, 0) (by decide) (by decide) (by decide) (by decide) (by omega) ((((hK.1 c).2 c2).2 c3).1 c4)
    · exact at30 3 _ 6 (0, 0) (by decide) (by decide) (by decide) (by decide) (by omega) (((((hK.1 c).2 c2).2 c3).2 c4).1 c5)
    · have hk := ((((hK.1 c).2 c2).2 c3).2 c4).2 c5
      have d1 : S 21 t ≠ 0 := by omega
      have hb := ((hR.2.2.2.2.2.2.1 t c.2.1 c.2.2).2 d1).1
      obtain ⟨v1, v2⟩ := mm_copy_v (S := S) (R := S) (p := 40 * s + i) (q := 40 * t + j) n.toNat
      refine hk _ _ (rR_rows h9.2 hR (fun k a1 a2 a3 => funext fun q => v1 k q a1) (fun z k q => if_neg (fun w => by unfold qSl at q; omega)) rG_rf (rSl_copy hW.2.2.2.2.2.1 x0 c.1 c.2 (by omega) (by omega) d1 (by omega) (by omega) rfl hR.2.2.2.2.2.2)) ⟨rG_rf, fun z k q => if_neg (fun w => by omega)⟩
  · exact hS.elim
