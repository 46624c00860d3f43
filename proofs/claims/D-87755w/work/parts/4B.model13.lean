/-! the reference, 13: laid, run -/
set_option maxRecDepth 100000
/-- the turn of an act at a tick; whether it is passed by; the state as it begins -/
def ml_t (S : jx_M) (now a : Int) : Int := (now - S 26 a) / S 0 27
def ml_sk (S : jx_M) (now a lim : Int) : Prop := now - S 26 a < 0 ∨ (now - S 26 a) % S 0 27 ≠ 0 ∨ lim ≤ 16 * ml_t S now a + a
def ml_S1 (S : jx_M) (now : Int) : jx_M := jx_u (jx_u S 0 41 (S 0 41 + 1)) 0 42 (now + 1)
noncomputable def ml_go (e : Int) : Nat → Int → Int → Int → jx_M → jx_M
  | 0, _, _, _, S => S
  | f + 1, now, a, lim, S => if e < now then S else if S 0 9 ≤ a then ml_go e f (now + 1) 0 lim S else
    @ite _ (ml_sk S now a lim) (Classical.propDecidable _) (ml_go e f now (a + 1) lim S)
      (if (mm_does (ml_S1 S now) a (ml_t S now a)).1 = 0 then ml_go e f now (a + 1) lim (mm_does (ml_S1 S now) a (ml_t S now a)).2
       else ml_go e f now (a + 1) (16 * ml_t S now a + a) (jx_u (jx_u (jx_u (mm_does (ml_S1 S now) a (ml_t S now a)).2 0 38 (mm_does (ml_S1 S now) a (ml_t S now a)).1) 0 39 a) 0 40 (ml_t S now a)))
def ml_e (n : Int) (S : jx_M) : Int := mm_max (S 26) (S 0 9).toNat + S 0 27 * (n - 1)
def ml_done (n : Int) (S : jx_M) : jx_M := jx_u S 0 44 (if S 0 38 = 0 then n else S 0 40)
noncomputable def mu_laid (n : Int) (S : jx_M) : jx_M := ml_done n (ml_go (ml_e n S) (17 * (ml_e n S).toNat + 100) 0 0 (16 * n) S)
theorem mm_same_S1 {S S' : jx_M} {now : Int} (h : mm_same S S') : mm_same S (ml_S1 S' now) := mm_same_0 (mm_same_0 h (by omega)) (by omega)
theorem mm_does_0k {S : jx_M} {a t k : Int} : (mm_does S a t).2 0 k = S 0 k := by
  unfold mm_does
  split
  · show mm_dput S a t 0 k = S 0 k
    unfold mm_dput
    rw [jx_u_a _ _ _ _ _ _ (by decide)]
    split
    · rw [jx_u_a _ _ _ _ _ _ (by decide)]
    · rfl
  · rfl
def js_X13_laid : jx_Sp := fun as g M Po => match as with
  | [(73, _, y), (0, _, n)] => ((0 ≤ M y 9 ∧ M y 9 ≤ 16) ∧ (1 ≤ n ∧ n ≤ 200) ∧ (1 ≤ M y 27 ∧ M y 27 ≤ 60) ∧ (-11 ≤ M y 38 ∧ M y 38 ≤ 0) ∧ mm_lnum (mY M y) ∧ (∀ a, 0 ≤ a → a < M y 9 → mm_act (mY M y) a) ∧ mm_rows (mY M y)) ∧ ∀ M', mY M' y = mu_laid n (mY M y) → mFr y M M' → Po (3, 0, 0) g M'
  | _ => False
def cs_X13_laid : jx_Cs := [(849, 3, 0, 0, js_X13_does)]
theorem hc_X13_laid {D : jx_D} {l : Launch} : jx_CsOK D l "LoopLaneModel" 3 cs_X13_laid := List.forall_mem_cons.mpr ⟨jc_X13_283 (jt_X13_does l) (fun as g M Po (h : js_X13_does as g M Po) => by unfold js_X13_does at h; split at h <;> first | exact h.elim | exact ⟨_, _, _, rfl, rfl⟩) (by decide), fun _ h => absurd h List.not_mem_nil⟩
set_option maxHeartbeats 4000000 in
theorem jt_X13_laid (l : Launch) : jx_Ct l yX13_laid (ws_ yX13_laid cX13_laid 8 none) 3 0 0 js_X13_laid := by
  refine jx_Ct_c (rc := 3) (by decide) rfl (fun D as g M Po hS => ?_)
  unfold js_X13_laid at hS
  split at hS
  · rename_i n1 y n2 n
    obtain ⟨⟨h1, h2, h2b, h2c, h2d, h3, h4⟩, hP⟩ := hS
    refine ⟨Nat.le_of_ble_eq_true rfl, ?_⟩
    have hb1 : 0 ≤ M y 27 * (n - 1) := Int.mul_nonneg (by omega) (by omega)
    have hb2 : M y 27 * (n - 1) ≤ 60 * 199 := Int.mul_le_mul (by omega) (by omega) (by omega) (by omega)
    have hmx := mm_max_r (mY M y 26) 100000 (by omega) (M y 9).toNat (fun v a b => (h2d v a (by rw [mY_0]; omega)).2.1.2)
    obtain ⟨last, hlast⟩ : ∃ q, q = mm_max (mY M y 26) (M y 9).toNat := ⟨_, rfl⟩
    rw [← hlast] at hmx
    have he : ml_e n (mY M y) = last + M y 27 * (n - 1) := by
      unfold ml_e
      rw [mY_0, mY_0, ← hlast]
    have fin : ∀ (lim : Int) (P4 P5 P6 P7 : jx_A) (M' : jx_M), mm_same (mY M y) (mY M' y) → (-11 ≤ M' y 38 ∧ M' y 38 ≤ 0) → mFr y M M' → (∀ M'', mY M'' y = ml_done n (mY M' y) → mFr y M M'' → Po (3, 0, 0) g M'') → jx_V D l (yX13_laid.cls, cX13_laid, 8, 3, [], 3, 0, 0, yX13_laid.name) Po 215 [(73, n1, y), (0, n2, n), (0, 0, lim), (0, 0, last), P4, P5, P6, P7] [] (0, 0) g (M') := by
      intro lim P4 P5 P6 P7 M' hs hr38 hr hE
      unfold ml_done at hE
      rw [mY_0, mY_0] at hE
      refine jx_runL (o := jo_X13) (cs := cs_X13_laid) (hf := jx_nh) jo_X13_ok hc_X13_laid (jx_HK_nil rfl) (fun _ => false) 60 ?_
      simp only [jw, ju, jx_tg, Int.cast_ofNat_Int, Int.reduceAdd, Int.reduceToNat, Nat.reduceAdd, Nat.reduceMul, Nat.reduceBEq, Nat.reduceLeDiff, Int.reduceLE, Int.reduceLT, Int.reduceEq, Int.reduceNeg, Int.reduceSub, Int.reduceMul, not_false_eq_true, true_and, and_true, and_self, Bool.or_false, Bool.false_or, Bool.or_true, Bool.true_or, List.length_nil, List.length_cons, Nat.zero_le, or_true, true_or, Nat.le_refl, ↓reduceIte, Nat.reduceEqDiff, forall_const, false_and, and_false, false_implies, implies_true, not_true_eq_false, or_false, false_or, ne_eq, jd_X13_laid, jf_X13, js_X13_does, cs_X13_laid, jx_ck_c]
      refine ⟨by omega, fun c => hE _ ?_ (mFr_u0 hr), fun c => hE _ ?_ (mFr_u0 hr)⟩
      · rw [if_neg c, mY_u0]
      · rw [if_pos (by omega), mY_u0]
    have loop : ∀ (f : Nat) (now a lim : Int) (P6 P7 : jx_A) (M' : jx_M), 17 * (last + M y 27 * (n - 1) - now) + (16 - a) < f → (0 ≤ now ∧ now ≤ last + M y 27 * (n - 1)) → (0 ≤ a ∧ a ≤ M y 9) → (0 ≤ lim ∧ lim ≤ 16 * n) → mm_same (mY M y) (mY M' y) → (-11 ≤ M' y 38 ∧ M' y 38 ≤ 0) → mFr y M M' →
        (∀ M'', mY M'' y = ml_done n (ml_go (last + M y 27 * (n - 1)) f now a lim (mY M' y)) → mFr y M M'' → Po (3, 0, 0) g M'') → jx_V D l (yX13_laid.cls, cX13_laid, 8, 3, [], 3, 0, 0, yX13_laid.name) Po 69 [(73, n1, y), (0, n2, n), (0, 0, lim), (0, 0, last), (0, 0, now), (0, 0, a), P6, P7] [] (0, 0) g (M') := by
      intro f
      induction f with
      | zero => intro now a lim P6 P7 M' hf; omega
      | succ f ih =>
        intro now a lim P6 P7 M' hf hnow ha hlim hs hr38 hr hE
        have e9 : M' y 9 = M y 9 := by
          have := hs.2 9 (by omega)
          rw [mY_0, mY_0] at this
          exact this
        have e27 : M' y 27 = M y 27 := by
          have := hs.2 27 (by omega)
          rw [mY_0, mY_0] at this
          exact this
        unfold ml_go at hE
        rw [if_neg (by omega)] at hE
        by_cases hc : M y 9 ≤ a
        · rw [if_pos (show mY M' y 0 9 ≤ a by rw [mY_0, e9]; exact hc)] at hE
          refine jx_runL (o := jo_X13) (cs := cs_X13_laid) (hf := jx_nh) jo_X13_ok hc_X13_laid (jx_HK_nil rfl) (fun p => p == 51 || p == 69) 60 ?_
          simp only [jw, ju, jx_tg, Int.cast_ofNat_Int, Int.reduceAdd, Int.reduceToNat, Nat.reduceAdd, Nat.reduceMul, Nat.reduceBEq, Nat.reduceLeDiff, Int.reduceLE, Int.reduceLT, Int.reduceEq, Int.reduceNeg, Int.reduceSub, Int.reduceMul, not_false_eq_true, true_and, and_true, and_self, Bool.or_false, Bool.false_or, Bool.or_true, Bool.true_or, List.length_nil, List.length_cons, Nat.zero_le, or_true, true_or, Nat.le_refl, ↓reduceIte, Nat.reduceEqDiff, forall_const, false_and, and_false, false_implies, implies_true, not_true_eq_false, or_false, false_or, ne_eq, jd_X13_laid, jf_X13, e9, js_X13_does, cs_X13_laid, jx_ck_c]
          refine ⟨by omega, fun c => ?_, fun c => by omega⟩
          by_cases ht2 : now + 1 ≤ last + M y 27 * (n - 1)
          · refine jx_runL (o := jo_X13) (cs := cs_X13_laid) (hf := jx_nh) jo_X13_ok hc_X13_laid (jx_HK_nil rfl) (fun p => p == 69 || p == 215) 60 ?_
            simp only [jw, ju, jx_tg, Int.cast_ofNat_Int, Int.reduceAdd, Int.reduceToNat, Nat.reduceAdd, Nat.reduceMul, Nat.reduceBEq, Nat.reduceLeDiff, Int.reduceLE, Int.reduceLT, Int.reduceEq, Int.reduceNeg, Int.reduceSub, Int.reduceMul, not_false_eq_true, true_and, and_true, and_self, Bool.or_false, Bool.false_or, Bool.or_true, Bool.true_or, List.length_nil, List.length_cons, Nat.zero_le, or_true, true_or, Nat.le_refl, ↓reduceIte, Nat.reduceEqDiff, forall_const, false_and, and_false, false_implies, implies_true, not_true_eq_false, or_false, false_or, ne_eq, jd_X13_laid, jf_X13, e27, js_X13_does, cs_X13_laid, jx_ck_c]
            exact ⟨by omega, fun c => by omega, fun c => ih (now + 1) 0 lim _ _ M' (by omega) (by omega) (by omega) hlim hs hr38 hr hE⟩
          · refine jx_runL (o := jo_X13) (cs := cs_X13_laid) (hf := jx_nh) jo_X13_ok hc_X13_laid (jx_HK_nil rfl) (fun p => p == 69 || p == 215) 60 ?_
            simp only [jw, ju, jx_tg, Int.cast_ofNat_Int, Int.reduceAdd, Int.reduceToNat, Nat.reduceAdd, Nat.reduceMul, Nat.reduceBEq, Nat.reduceLeDiff, Int.reduceLE, Int.reduceLT, Int.reduceEq, Int.reduceNeg, Int.reduceSub, Int.reduceMul, not_false_eq_true, true_and, and_true, and_self, Bool.or_false, Bool.false_or, Bool.or_true, Bool.true_or, List.length_nil, List.length_cons, Nat.zero_le, or_true, true_or, Nat.le_refl, ↓reduceIte, Nat.reduceEqDiff, forall_const, false_and, and_false, false_implies, implies_true, not_true_eq_false, or_false, false_or, ne_eq, jd_X13_laid, jf_X13, e27, js_X13_does, cs_X13_laid, jx_ck_c]
            refine ⟨by omega, fun c => fin lim _ _ _ _ M' hs hr38 hr (fun M'' k1 k2 => hE M'' ?_ k2), fun c => by omega⟩
            rw [k1]
            match f with
            | 0 => rfl
            | f + 1 => unfold ml_go; rw [if_pos (by omega)]
        · rw [if_neg (show ¬ mY M' y 0 9 ≤ a by rw [mY_0, e9]; exact hc)] at hE
          have e26 : M' (y + 26) a = M (y + 26) a := hs.1 26 a (by omega) (by omega) (by omega)
          have hq := (h2d a ha.1 (by rw [mY_0]; omega)).2.1
          simp only [mY_j] at hq
          have et : ml_t (mY M' y) now a = (now - M (y + 26) a) / M y 27 := by
            unfold ml_t
            rw [mY_0, e27, mY_j, e26]
          have at203 : ∀ (lim' : Int) (P6' P7' : jx_A) (M2 : jx_M), jx_V D l (yX13_laid.cls, cX13_laid, 8, 3, [], 3, 0, 0, yX13_laid.name) Po 69 [(73, n1, y), (0, n2, n), (0, 0, lim'), (0, 0, last), (0, 0, now), (0, 0, a + 1), P6', P7'] [] (0, 0) g (M2) → jx_V D l (yX13_laid.cls, cX13_laid, 8, 3, [], 3, 0, 0, yX13_laid.name) Po 203 [(73, n1, y), (0, n2, n), (0, 0, lim'), (0, 0, last), (0, 0, now), (0, 0, a), P6', P7'] [] (0, 0) g (M2) := by
            intro lim' P6' P7' M2 hV
            refine jx_runL (o := jo_X13) (cs := cs_X13_laid) (hf := jx_nh) jo_X13_ok hc_X13_laid (jx_HK_nil rfl) (fun p => p == 69) 60 ?_
            simp only [jw, ju, jx_tg, Int.cast_ofNat_Int, Int.reduceAdd, Int.reduceToNat, Nat.reduceAdd, Nat.reduceMul, Nat.reduceBEq, Nat.reduceLeDiff, Int.reduceLE, Int.reduceLT, Int.reduceEq, Int.reduceNeg, Int.reduceSub, Int.reduceMul, not_false_eq_true, true_and, and_true, and_self, Bool.or_false, Bool.false_or, Bool.or_true, Bool.true_or, List.length_nil, List.length_cons, Nat.zero_le, or_true, true_or, Nat.le_refl, ↓reduceIte, Nat.reduceEqDiff, forall_const, false_and, and_false, false_implies, implies_true, not_true_eq_false, or_false, false_or, ne_eq, jd_X13_laid, jf_X13, js_X13_does, cs_X13_laid, jx_ck_c]
            exact hV
          by_cases hsk : ml_sk (mY M' y) now a lim
          · rw [if_pos hsk] at hE
            have hV := fun P6 P7 => at203 lim P6 P7 M' (ih now (a + 1) lim P6 P7 M' (by omega) hnow (by omega) hlim hs hr38 hr hE)
            unfold ml_sk at hsk
            rw [mY_0, e27, et, mY_j, e26] at hsk
            refine jx_runL (o := jo_X13) (cs := cs_X13_laid) (hf := jx_nh) jo_X13_ok hc_X13_laid (jx_HK_nil rfl) (fun p => p == 203) 60 ?_
            simp only [jw, ju, jx_tg, Int.cast_ofNat_Int, Int.reduceAdd, Int.reduceToNat, Nat.reduceAdd, Nat.reduceMul, Nat.reduceBEq, Nat.reduceLeDiff, Int.reduceLE, Int.reduceLT, Int.reduceEq, Int.reduceNeg, Int.reduceSub, Int.reduceMul, not_false_eq_true, true_and, and_true, and_self, Bool.or_false, Bool.false_or, Bool.or_true, Bool.true_or, List.length_nil, List.length_cons, Nat.zero_le, or_true, true_or, Nat.le_refl, ↓reduceIte, Nat.reduceEqDiff, forall_const, false_and, and_false, false_implies, implies_true, not_true_eq_false, or_false, false_or, ne_eq, jd_X13_laid, jf_X13, e9, e27, e26, js_X13_does, cs_X13_laid, jx_ck_c]
            refine ⟨by omega, fun c => by omega, fun c => ⟨by omega, by omega, fun c1 => hV _ _, fun c1 => ?_⟩⟩
            rw [Int.tmod_eq_emod_of_nonneg (show 0 ≤ now - M (y + 26) a by omega), Int.tdiv_eq_ediv_of_nonneg (show 0 ≤ now - M (y + 26) a by omega)]
            have d1 := Int.emod_nonneg (now - M (y + 26) a) (show M y 27 ≠ 0 by omega)
            have d2 := Int.emod_lt_of_pos (now - M (y + 26) a) (show 0 < M y 27 by omega)
            have d3 := Int.ediv_nonneg (show 0 ≤ now - M (y + 26) a by omega) (show 0 ≤ M y 27 by omega)
            have d4 := Int.ediv_le_self (M y 27) (show 0 ≤ now - M (y + 26) a by omega)
            refine ⟨by omega, by omega, fun c2 => hV _ _, fun c2 => ⟨by omega, by omega, fun c3 => by omega, fun c3 => hV _ _⟩⟩
          · rw [if_neg hsk] at hE
            unfold ml_sk at hsk
            rw [mY_0, e27, et, mY_j, e26] at hsk
            have d1 := Int.emod_nonneg (now - M (y + 26) a) (show M y 27 ≠ 0 by omega)
            have d3 := Int.ediv_nonneg (show 0 ≤ now - M (y + 26) a by omega) (show 0 ≤ M y 27 by omega)
            have d4 := Int.ediv_le_self (M y 27) (show 0 ≤ now - M (y + 26) a by omega)
            have e1 : mY (jx_u (jx_u M' y 41 (M' y 41 + 1)) y 42 (now + 1)) y = ml_S1 (mY M' y) now := by
              unfold ml_S1
              rw [mY_u0, mY_u0, mY_0]
            have hs1 : mm_same (mY M y) (mY (jx_u (jx_u M' y 41 (M' y 41 + 1)) y 42 (now + 1)) y) := by
              rw [e1]
              exact mm_same_S1 hs
            obtain ⟨t, ht⟩ : ∃ t, t = (now - M (y + 26) a) / M y 27 := ⟨_, rfl⟩
            rw [← ht] at et hsk d3 d4
            rw [et, ← e1] at hE
            have hdr := @mm_does_r (mY (jx_u (jx_u M' y 41 (M' y 41 + 1)) y 42 (now + 1)) y) a t
            have hsd := mm_same_does (a := a) (t := t) hs1
            refine jx_runL (o := jo_X13) (cs := cs_X13_laid) (hf := jx_nh) jo_X13_ok hc_X13_laid (jx_HK_nil rfl) (fun p => p == 78) 60 ?_
            simp only [jw, ju, jx_tg, Int.cast_ofNat_Int, Int.reduceAdd, Int.reduceToNat, Nat.reduceAdd, Nat.reduceMul, Nat.reduceBEq, Nat.reduceLeDiff, Int.reduceLE, Int.reduceLT, Int.reduceEq, Int.reduceNeg, Int.reduceSub, Int.reduceMul, not_false_eq_true, true_and, and_true, and_self, Bool.or_false, Bool.false_or, Bool.or_true, Bool.true_or, List.length_nil, List.length_cons, Nat.zero_le, or_true, true_or, Nat.le_refl, ↓reduceIte, Nat.reduceEqDiff, forall_const, false_and, and_false, false_implies, implies_true, not_true_eq_false, or_false, false_or, ne_eq, jd_X13_laid, jf_X13, e9, js_X13_does, cs_X13_laid, jx_ck_c]
            refine ⟨by omega, fun c => by omega, fun c => ?_⟩
            refine jx_runL (o := jo_X13) (cs := cs_X13_laid) (hf := jx_nh) jo_X13_ok hc_X13_laid (jx_HK_nil rfl) (fun p => p == 125 || p == 203) 60 ?_
            simp only [jw, ju, jx_tg, Int.cast_ofNat_Int, Int.reduceAdd, Int.reduceToNat, Nat.reduceAdd, Nat.reduceMul, Nat.reduceBEq, Nat.reduceLeDiff, Int.reduceLE, Int.reduceLT, Int.reduceEq, Int.reduceNeg, Int.reduceSub, Int.reduceMul, not_false_eq_true, true_and, and_true, and_self, Bool.or_false, Bool.false_or, Bool.or_true, Bool.true_or, List.length_nil, List.length_cons, Nat.zero_le, or_true, true_or, Nat.le_refl, ↓reduceIte, Nat.reduceEqDiff, forall_const, false_and, and_false, false_implies, implies_true, not_true_eq_false, or_false, false_or, ne_eq, jd_X13_laid, jf_X13, e27, e26, js_X13_does, cs_X13_laid, jx_ck_c]
            rw [Int.tmod_eq_emod_of_nonneg (show 0 ≤ now - M (y + 26) a by omega), Int.tdiv_eq_ediv_of_nonneg (show 0 ≤ now - M (y + 26) a by omega), ← ht]
            refine ⟨by omega, by omega, fun c1 => by omega, fun c1 => ⟨by omega, by omega, fun c2 => by omega, fun c2 => ⟨by omega, by omega, fun c3 => ?_, fun c3 => by omega⟩⟩⟩
            refine jx_runL (o := jo_X13) (cs := cs_X13_laid) (hf := jx_nh) jo_X13_ok hc_X13_laid (jx_HK_nil rfl) (fun p => p == 158) 60 ?_
            simp only [jw, ju, jx_tg, Int.cast_ofNat_Int, Int.reduceAdd, Int.reduceToNat, Nat.reduceAdd, Nat.reduceMul, Nat.reduceBEq, Nat.reduceLeDiff, Int.reduceLE, Int.reduceLT, Int.reduceEq, Int.reduceNeg, Int.reduceSub, Int.reduceMul, not_false_eq_true, true_and, and_true, and_self, Bool.or_false, Bool.false_or, Bool.or_true, Bool.true_or, List.length_nil, List.length_cons, Nat.zero_le, or_true, true_or, Nat.le_refl, ↓reduceIte, Nat.reduceEqDiff, forall_const, false_and, and_false, false_implies, implies_true, not_true_eq_false, or_false, false_or, ne_eq, jd_X13_laid, jf_X13, e27, js_X13_does, cs_X13_laid, jx_ck_c]
            rw [Int.tdiv_eq_ediv_of_nonneg (show 0 ≤ now - M (y + 26) a by omega), ← ht]
            refine ⟨by omega, ⟨by omega, by omega, mm_act_same hs1 (h3 a ha.1 (by omega)), mm_rows_same hs1 h4⟩, fun M2 k1 k2 => ?_⟩
            have f27 : M2 y 27 = M y 27 := by
              have := (congrFun (congrFun k1 0) 27).trans (hsd.2 27 (by omega))
              rw [mY_0, mY_0] at this
              exact this
            have f38 : M2 y 38 = M' y 38 := by
              have := (congrFun (congrFun k1 0) 38).trans mm_does_0k
              rw [mY_0, mY_0, jx_u_j _ _ _ _ _ _ (by decide), jx_u_j _ _ _ _ _ _ (by decide)] at this
              exact this
            have hr2 : mFr y M M2 := mFr_tr (mFr_u0 (mFr_u0 hr)) k2
            by_cases hz : (mm_does (mY (jx_u (jx_u M' y 41 (M' y 41 + 1)) y 42 (now + 1)) y) a t).1 = 0
            · rw [if_pos hz] at hE
              rw [hz]
              refine jx_runL (o := jo_X13) (cs := cs_X13_laid) (hf := jx_nh) jo_X13_ok hc_X13_laid (jx_HK_nil rfl) (fun p => p == 203) 60 ?_
              simp only [jw, ju, jx_tg, Int.cast_ofNat_Int, Int.reduceAdd, Int.reduceToNat, Nat.reduceAdd, Nat.reduceMul, Nat.reduceBEq, Nat.reduceLeDiff, Int.reduceLE, Int.reduceLT, Int.reduceEq, Int.reduceNeg, Int.reduceSub, Int.reduceMul, not_false_eq_true, true_and, and_true, and_self, Bool.or_false, Bool.false_or, Bool.or_true, Bool.true_or, List.length_nil, List.length_cons, Nat.zero_le, or_true, true_or, Nat.le_refl, ↓reduceIte, Nat.reduceEqDiff, forall_const, false_and, and_false, false_implies, implies_true, not_true_eq_false, or_false, false_or, ne_eq, jd_X13_laid, jf_X13, js_X13_does, cs_X13_laid, jx_ck_c]
              refine at203 lim _ _ M2 (ih now (a + 1) lim _ _ M2 (by omega) hnow (by omega) hlim ?_ (by rw [f38]; exact hr38) hr2 ?_)
              · rw [k1]
                exact hsd
              · rw [k1]
                exact hE
            · rw [if_neg hz] at hE
              refine jx_runL (o := jo_X13) (cs := cs_X13_laid) (hf := jx_nh) jo_X13_ok hc_X13_laid (jx_HK_nil rfl) (fun p => p == 203) 60 ?_
              simp only [jw, ju, jx_tg, Int.cast_ofNat_Int, Int.reduceAdd, Int.reduceToNat, Nat.reduceAdd, Nat.reduceMul, Nat.reduceBEq, Nat.reduceLeDiff, Int.reduceLE, Int.reduceLT, Int.reduceEq, Int.reduceNeg, Int.reduceSub, Int.reduceMul, not_false_eq_true, true_and, and_true, and_self, Bool.or_false, Bool.false_or, Bool.or_true, Bool.true_or, List.length_nil, List.length_cons, Nat.zero_le, or_true, true_or, Nat.le_refl, ↓reduceIte, Nat.reduceEqDiff, forall_const, false_and, and_false, false_implies, implies_true, not_true_eq_false, or_false, false_or, ne_eq, jd_X13_laid, jf_X13, f27, js_X13_does, cs_X13_laid, jx_ck_c]
              rw [Int.tdiv_eq_ediv_of_nonneg (show 0 ≤ now - M (y + 26) a by omega), ← ht]
              refine ⟨by omega, fun c4 => ⟨by omega, by omega, ?_⟩, fun c4 => by omega⟩
              refine at203 _ _ _ _ (ih now (a + 1) _ _ _ _ (by omega) hnow (by omega) (by omega) ?_ ?_ (mFr_u0 (mFr_u0 (mFr_u0 hr2))) ?_)
              · rw [mY_u0, mY_u0, mY_u0, k1]
                exact mm_same_0 (mm_same_0 (mm_same_0 hsd (by omega)) (by omega)) (by omega)
              · rw [jx_u_j _ _ _ _ _ _ (by decide), jx_u_j _ _ _ _ _ _ (by decide), jx_u_eq]
                omega
              · rw [mY_u0, mY_u0, mY_u0, k1]
                exact hE
    have pre : ∀ (f k : Nat) (P5 P6 P7 : jx_A), (k : Int) + f = M y 9 → jx_V D l (yX13_laid.cls, cX13_laid, 8, 3, [], 3, 0, 0, yX13_laid.name) Po 10 [(73, n1, y), (0, n2, n), (0, 0, 16 * n), (0, 0, mm_max (mY M y 26) k), (0, 0, (k : Int)), P5, P6, P7] [] (0, 0) g (M) := by
      intro f
      induction f with
      | zero =>
        intro k P5 P6 P7 hk
        have hk2 : mm_max (mY M y 26) k = last := by rw [hlast, show (M y 9).toNat = k by omega]
        rw [hk2]
        refine jx_runL (o := jo_X13) (cs := cs_X13_laid) (hf := jx_nh) jo_X13_ok hc_X13_laid (jx_HK_nil rfl) (fun p => p == 10 || p == 69 || p == 215) 60 ?_
        simp only [jw, ju, jx_tg, Int.cast_ofNat_Int, Int.reduceAdd, Int.reduceToNat, Nat.reduceAdd, Nat.reduceMul, Nat.reduceBEq, Nat.reduceLeDiff, Int.reduceLE, Int.reduceLT, Int.reduceEq, Int.reduceNeg, Int.reduceSub, Int.reduceMul, not_false_eq_true, true_and, and_true, and_self, Bool.or_false, Bool.false_or, Bool.or_true, Bool.true_or, List.length_nil, List.length_cons, Nat.zero_le, or_true, true_or, Nat.le_refl, ↓reduceIte, Nat.reduceEqDiff, forall_const, false_and, and_false, false_implies, implies_true, not_true_eq_false, or_false, false_or, ne_eq, jd_X13_laid, jf_X13, js_X13_does, cs_X13_laid, jx_ck_c]
        refine ⟨by omega, fun c => ⟨by omega, fun c2 => by omega, fun c2 => ?_⟩, fun c => by omega⟩
        refine loop (17 * (last + M y 27 * (n - 1)).toNat + 100) 0 0 _ _ _ M (by omega) (by omega) (by omega) (by omega) mm_same_rf h2c mFr_rf ?_
        unfold mu_laid at hP
        rw [he] at hP
        exact hP
      | succ f ih =>
        intro k P5 P6 P7 hk
        have q := (h2d k (by omega) (by rw [mY_0]; omega)).2.1
        simp only [mY_j] at q
        have m1 := mm_max_r (mY M y 26) 100000 (by omega) k (fun v a b => (h2d v a (by rw [mY_0]; omega)).2.1.2)
        have ihk := ih (k + 1) P5 P6 P7 (by omega)
        have e1 : mm_max (mY M y 26) (k + 1) = max (mm_max (mY M y 26) k) (M (y + 26) k) := rfl
        rw [e1] at ihk
        refine jx_runL (o := jo_X13) (cs := cs_X13_laid) (hf := jx_nh) jo_X13_ok hc_X13_laid (jx_HK_nil rfl) (fun p => p == 10 || p == 69 || p == 215) 60 ?_
        simp only [jw, ju, jx_tg, Int.cast_ofNat_Int, Int.reduceAdd, Int.reduceToNat, Nat.reduceAdd, Nat.reduceMul, Nat.reduceBEq, Nat.reduceLeDiff, Int.reduceLE, Int.reduceLT, Int.reduceEq, Int.reduceNeg, Int.reduceSub, Int.reduceMul, not_false_eq_true, true_and, and_true, and_self, Bool.or_false, Bool.false_or, Bool.or_true, Bool.true_or, List.length_nil, List.length_cons, Nat.zero_le, or_true, true_or, Nat.le_refl, ↓reduceIte, Nat.reduceEqDiff, forall_const, false_and, and_false, false_implies, implies_true, not_true_eq_false, or_false, false_or, ne_eq, jd_X13_laid, jf_X13, js_X13_does, cs_X13_laid, jx_ck_c]
        refine ⟨by omega, fun c => by omega, fun c => ⟨by omega, by omega, fun c2 => ?_, fun c2 => ⟨by omega, ?_⟩⟩⟩
        · rw [show max (mm_max (mY M y 26) k) (M (y + 26) k) = mm_max (mY M y 26) k by omega] at ihk
          exact ihk
        · rw [show max (mm_max (mY M y 26) k) (M (y + 26) k) = M (y + 26) k by omega] at ihk
          exact ihk
    refine jx_runL (o := jo_X13) (cs := cs_X13_laid) (hf := jx_nh) jo_X13_ok hc_X13_laid (jx_HK_nil rfl) (fun p => p == 10) 60 ?_
    simp only [jw, ju, jx_tg, Int.cast_ofNat_Int, Int.reduceAdd, Int.reduceToNat, Nat.reduceAdd, Nat.reduceMul, Nat.reduceBEq, Nat.reduceLeDiff, Int.reduceLE, Int.reduceLT, Int.reduceEq, Int.reduceNeg, Int.reduceSub, Int.reduceMul, not_false_eq_true, true_and, and_true, and_self, Bool.or_false, Bool.false_or, Bool.or_true, Bool.true_or, List.length_nil, List.length_cons, Nat.zero_le, or_true, true_or, Nat.le_refl, ↓reduceIte, Nat.reduceEqDiff, forall_const, false_and, and_false, false_implies, implies_true, not_true_eq_false, or_false, false_or, ne_eq, jd_X13_laid, jf_X13, js_X13_does, cs_X13_laid, jx_ck_c]
    exact pre (M y 9).toNat 0 _ _ _ (by omega)
  · exact hS.elim
noncomputable def f_run (n lb : Int) (S : jx_M) : mR := if mm_whyrun S n lb = 0 then
    (@ite _ (lb ≠ 0 ∧ mm_max (S 25) (S 0 9).toNat + 1 ≤ n) (Classical.propDecidable _) (mu_laid n (mu_forget S 0) 0 44, jx_u (mu_laid n (mu_forget S 0)) 0 43 1) (mp_go n 4000 0 0 (mu_forget S 0) 0 44, jx_u (mp_go n 4000 0 0 (mu_forget S 0)) 0 43 0))
  else mno (mm_whyrun S n lb) S
theorem mm_same_forget {S : jx_M} : mm_same S (mu_forget S 0) := by
  unfold mu_forget
  exact mm_same_0 (mm_same_0 (mm_same_0 (mm_same_0 (mm_same_0 (mm_same_0 (mm_same_0 mm_same_rf (by omega)) (by omega)) (by omega)) (by omega)) (by omega)) (by omega)) (by omega)
theorem mm_lnum_same {S S' : jx_M} (h : mm_same S S') (hr : mm_lnum S) : mm_lnum S' := by
  unfold mm_lnum at *
  intro a x z
  rw [h.1 _ _ (show (1 : Int) ≤ 25 by decide) (by decide) (by decide), h.1 _ _ (show (1 : Int) ≤ 26 by decide) (by decide) (by decide), h.1 _ _ (show (1 : Int) ≤ 2 by decide) (by decide) (by decide)]
  rw [h.2 9 (by decide)] at z
  exact hr a x z
def js_X13_run : jx_Sp := fun as g M Po => match as with
  | [(73, _, y), (0, _, n), (0, _, lb)] => (((0 ≤ M y 9 ∧ M y 9 ≤ 16) ∧ mm_ofs (mY M y)) ∧ jx_r n ∧ (lb = 0 ∨ lb = 1) ∧ (0 ≤ M y 27 ∧ M y 27 ≤ 60) ∧ (M y 27 ≠ 0 → mm_lnum (mY M y)) ∧ (mm_ready (mY M y) → ∀ a, 0 ≤ a → a < M y 9 → mm_act (mY M y) a) ∧ mm_rows (mY M y)) ∧ mK y g M Po 0 (f_run n lb (mY M y)).1 (f_run n lb (mY M y)).2
  | _ => False
def cs_X13_run : jx_Cs := [(858, 3, 0, 0, js_X13_whyNoRun), (372, 2, 0, 0, js_X13_no), (324, 1, 0, 0, js_X13_forget), (870, 2, 0, 0, js_X13_laying), (879, 2, 0, 0, js_X13_laid), (891, 2, 0, 0, js_X13_plain)]
theorem hc_X13_run {D : jx_D} {l : Launch} : jx_CsOK D l "LoopLaneModel" 4 cs_X13_run := List.forall_mem_cons.mpr ⟨jc_X13_286 (jt_X13_whyNoRun l) (fun as g M Po (h : js_X13_whyNoRun as g M Po) => by unfold js_X13_whyNoRun at h; split at h <;> first | exact h.elim | exact ⟨_, _, _, rfl, rfl⟩) (by decide), List.forall_mem_cons.mpr ⟨jc_X13_124 (jt_X13_no l) (fun as g M Po (h : js_X13_no as g M Po) => by unfold js_X13_no at h; split at h <;> first | exact h.elim | exact ⟨_, _, _, rfl, rfl⟩) (by decide), List.forall_mem_cons.mpr ⟨jc_X13_108 (jt_X13_forget l) (fun as g M Po (h : js_X13_forget as g M Po) => by unfold js_X13_forget at h; split at h <;> first | exact h.elim | exact ⟨_, _, _, rfl, rfl⟩) (by decide), List.forall_mem_cons.mpr ⟨jc_X13_290 (jt_X13_laying l) (fun as g M Po (h : js_X13_laying as g M Po) => by unfold js_X13_laying at h; split at h <;> first | exact h.elim | exact ⟨_, _, _, rfl, rfl⟩) (by decide), List.forall_mem_cons.mpr ⟨jc_X13_293 (jt_X13_laid l) (fun as g M Po (h : js_X13_laid as g M Po) => by unfold js_X13_laid at h; split at h <;> first | exact h.elim | exact ⟨_, _, _, rfl, rfl⟩) (by decide), List.forall_mem_cons.mpr ⟨jc_X13_297 (jt_X13_plain l) (fun as g M Po (h : js_X13_plain as g M Po) => by unfold js_X13_plain at h; split at h <;> first | exact h.elim | exact ⟨_, _, _, rfl, rfl⟩) (by decide), fun _ h => absurd h List.not_mem_nil⟩⟩⟩⟩⟩⟩
set_option maxHeartbeats 4000000 in
theorem jt_X13_run (l : Launch) : jx_Ct l yX13_run (ws_ yX13_run cX13_run 5 (some .int)) 4 0 0 js_X13_run := by
  refine jx_Ct_c (rc := 0) (by decide) rfl (fun D as g M Po hS => ?_)
  unfold js_X13_run at hS
  split at hS
  · rename_i n1 y n2 n n3 lb
    obtain ⟨⟨h1, r1, r2, h2, h3, h4, h5⟩, hK⟩ := hS
    unfold f_run at hK
    simp only [mK_ite, mno] at hK
    refine ⟨Nat.le_of_ble_eq_true rfl, ?_⟩
    have hr := @mm_whyrun_r (mY M y) n lb
    have hms : mm_same (mY M y) (mY (mu_forget M y) y) := by rw [mY_forget]; exact mm_same_forget
    have e9 : mu_forget M y y 9 = M y 9 := by
      have := hms.2 9 (by omega)
      rw [mY_0, mY_0] at this
      exact this
    have e27 : mu_forget M y y 27 = M y 27 := by
      have := hms.2 27 (by omega)
      rw [mY_0, mY_0] at this
      exact this
    have e38 : mu_forget M y y 38 = 0 := by
      unfold mu_forget
      rw [jx_u_j _ _ _ _ _ _ (by decide), jx_u_j _ _ _ _ _ _ (by decide), jx_u_j _ _ _ _ _ _ (by decide), jx_u_j _ _ _ _ _ _ (by decide), jx_u_j _ _ _ _ _ _ (by decide), jx_u_j _ _ _ _ _ _ (by decide), jx_u_eq]
    refine jx_runL (o := jo_X13) (cs := cs_X13_run) (hf := jx_nh) jo_X13_ok hc_X13_run (jx_HK_nil rfl) (fun p => p == 17) 60 ?_
    simp only [jw, ju, jx_tg, Int.cast_ofNat_Int, Int.reduceAdd, Int.reduceToNat, Nat.reduceAdd, Nat.reduceMul, Nat.reduceBEq, Nat.reduceLeDiff, Int.reduceLE, Int.reduceLT, Int.reduceEq, Int.reduceNeg, Int.reduceSub, Int.reduceMul, not_false_eq_true, true_and, and_true, and_self, Bool.or_false, Bool.false_or, Bool.or_true, Bool.true_or, List.length_nil, List.length_cons, Nat.zero_le, or_true, true_or, Nat.le_refl, ↓reduceIte, Nat.reduceEqDiff, forall_const, false_and, and_false, false_implies, implies_true, not_true_eq_false, or_false, false_or, ne_eq, jd_X13_run, jf_X13, js_X13_forget, js_X13_laid, js_X13_laying, js_X13_no, js_X13_plain, js_X13_whyNoRun, cs_X13_run, jx_ck_c]
    refine ⟨⟨h1, r1, by omega, by omega⟩, by omega, fun c => ?_, fun c => ⟨by omega, mK_no (hK.2 c)⟩⟩
    obtain ⟨z1, z2, z3, z4⟩ := mm_whyrun_0 c
    rw [mY_0] at z2
    have hE := hK.1 c
    have hact := h4 z1
    have go54 : ¬ (lb ≠ 0 ∧ mm_max (mY M y 25) (mY M y 0 9).toNat + 1 ≤ n) → jx_V D l (yX13_run.cls, cX13_run, 5, 0, [], 4, 0, 0, yX13_run.name) Po 54 [(73, n1, y), (0, n2, n), (0, n3, lb), (0, 0, mm_whyrun (mY M y) n lb), (0, 0, 0)] [] (0, 0) g (mu_forget M y) := by
      intro q
      have hE2 := hE.2 q
      refine jx_runL (o := jo_X13) (cs := cs_X13_run) (hf := jx_nh) jo_X13_ok hc_X13_run (jx_HK_nil rfl) (fun _ => false) 60 ?_
      simp only [jw, ju, jx_tg, Int.cast_ofNat_Int, Int.reduceAdd, Int.reduceToNat, Nat.reduceAdd, Nat.reduceMul, Nat.reduceBEq, Nat.reduceLeDiff, Int.reduceLE, Int.reduceLT, Int.reduceEq, Int.reduceNeg, Int.reduceSub, Int.reduceMul, not_false_eq_true, true_and, and_true, and_self, Bool.or_false, Bool.false_or, Bool.or_true, Bool.true_or, List.length_nil, List.length_cons, Nat.zero_le, or_true, true_or, Nat.le_refl, ↓reduceIte, Nat.reduceEqDiff, forall_const, false_and, and_false, false_implies, implies_true, not_true_eq_false, or_false, false_or, ne_eq, jd_X13_run, jf_X13, js_X13_forget, js_X13_laid, js_X13_laying, js_X13_no, js_X13_plain, js_X13_whyNoRun, cs_X13_run, jx_ck_c]
      refine ⟨⟨by rw [e9]; exact h1.1, by omega, fun a x z => mm_act_same hms (hact a x (by rw [e9] at z; exact z)), mm_rows_same hms h5⟩, fun M' k1 k2 => ?_⟩
      have k0 : M' y 44 = mp_go n 4000 0 0 (mu_forget (mY M y) 0) 0 44 := by rw [← mY_0 M' y 44, k1, mY_forget]
      rw [k0]
      exact mK_of hE2 (by rw [mY_u0, k1, mY_forget]) (mFr_u0 (mFr_tr (mFr_forget mFr_rf) k2))
    rcases r2 with rfl | rfl
    · refine jx_runL (o := jo_X13) (cs := cs_X13_run) (hf := jx_nh) jo_X13_ok hc_X13_run (jx_HK_nil rfl) (fun p => p == 54) 60 ?_
      simp only [jw, ju, jx_tg, Int.cast_ofNat_Int, Int.reduceAdd, Int.reduceToNat, Nat.reduceAdd, Nat.reduceMul, Nat.reduceBEq, Nat.reduceLeDiff, Int.reduceLE, Int.reduceLT, Int.reduceEq, Int.reduceNeg, Int.reduceSub, Int.reduceMul, not_false_eq_true, true_and, and_true, and_self, Bool.or_false, Bool.false_or, Bool.or_true, Bool.true_or, List.length_nil, List.length_cons, Nat.zero_le, or_true, true_or, Nat.le_refl, ↓reduceIte, Nat.reduceEqDiff, forall_const, false_and, and_false, false_implies, implies_true, not_true_eq_false, or_false, false_or, ne_eq, jd_X13_run, jf_X13, js_X13_forget, js_X13_laid, js_X13_laying, js_X13_no, js_X13_plain, js_X13_whyNoRun, cs_X13_run, jx_ck_c]
      exact go54 (fun q => q.1 rfl)
    · have e25 : f_laying 1 (mY (mu_forget M y) y) = (mm_max (mY M y 25) (mY M y 0 9).toNat + 1, mY (mu_forget M y) y) := by
        unfold f_laying
        rw [if_neg (by rw [mY_0, e27]; exact z2 (by decide)), if_pos (by decide), if_neg (by decide), if_pos (by decide), hms.2 9 (by decide)]
        congr 1
        congr 1
        congr 1
        funext k
        exact hms.1 25 k (by decide) (by decide) (by decide)
      have hln := h3 (z2 (by decide))
      have hmx := mm_max_r (mY M y 25) 1000 (by omega) (mY M y 0 9).toNat (fun v a b => (hln v a (by omega)).1.2)
      refine jx_runL (o := jo_X13) (cs := cs_X13_run) (hf := jx_nh) jo_X13_ok hc_X13_run (jx_HK_nil rfl) (fun p => p == 41) 60 ?_
      simp only [jw, ju, jx_tg, Int.cast_ofNat_Int, Int.reduceAdd, Int.reduceToNat, Nat.reduceAdd, Nat.reduceMul, Nat.reduceBEq, Nat.reduceLeDiff, Int.reduceLE, Int.reduceLT, Int.reduceEq, Int.reduceNeg, Int.reduceSub, Int.reduceMul, not_false_eq_true, true_and, and_true, and_self, Bool.or_false, Bool.false_or, Bool.or_true, Bool.true_or, List.length_nil, List.length_cons, Nat.zero_le, or_true, true_or, Nat.le_refl, ↓reduceIte, Nat.reduceEqDiff, forall_const, false_and, and_false, false_implies, implies_true, not_true_eq_false, or_false, false_or, ne_eq, jd_X13_run, jf_X13, js_X13_forget, js_X13_laid, js_X13_laying, js_X13_no, js_X13_plain, js_X13_whyNoRun, cs_X13_run, jx_ck_c]
      rw [e25]
      dsimp only
      refine ⟨⟨by rw [e9]; exact h1.1, by rw [e27]; exact h2, by decide, fun _ => mm_lnum_same hms hln⟩, ?_⟩
      intro M' k1 k2
      have hM : M' = mu_forget M y := mY_ext k1 k2
      subst hM
      refine ⟨⟨r1, by omega⟩, fun c2 => ?_, fun c2 => ?_⟩
      · refine jx_runL (o := jo_X13) (cs := cs_X13_run) (hf := jx_nh) jo_X13_ok hc_X13_run (jx_HK_nil rfl) (fun p => p == 54) 60 ?_
        simp only [jw, ju, jx_tg, Int.cast_ofNat_Int, Int.reduceAdd, Int.reduceToNat, Nat.reduceAdd, Nat.reduceMul, Nat.reduceBEq, Nat.reduceLeDiff, Int.reduceLE, Int.reduceLT, Int.reduceEq, Int.reduceNeg, Int.reduceSub, Int.reduceMul, not_false_eq_true, true_and, and_true, and_self, Bool.or_false, Bool.false_or, Bool.or_true, Bool.true_or, List.length_nil, List.length_cons, Nat.zero_le, or_true, true_or, Nat.le_refl, ↓reduceIte, Nat.reduceEqDiff, forall_const, false_and, and_false, false_implies, implies_true, not_true_eq_false, or_false, false_or, ne_eq, jd_X13_run, jf_X13, js_X13_forget, js_X13_laid, js_X13_laying, js_X13_no, js_X13_plain, js_X13_whyNoRun, cs_X13_run, jx_ck_c]
        exact go54 (fun q => by omega)
      · have hE1 := hE.1 ⟨by decide, by omega⟩
        refine jx_runL (o := jo_X13) (cs := cs_X13_run) (hf := jx_nh) jo_X13_ok hc_X13_run (jx_HK_nil rfl) (fun _ => false) 60 ?_
        simp only [jw, ju, jx_tg, Int.cast_ofNat_Int, Int.reduceAdd, Int.reduceToNat, Nat.reduceAdd, Nat.reduceMul, Nat.reduceBEq, Nat.reduceLeDiff, Int.reduceLE, Int.reduceLT, Int.reduceEq, Int.reduceNeg, Int.reduceSub, Int.reduceMul, not_false_eq_true, true_and, and_true, and_self, Bool.or_false, Bool.false_or, Bool.or_true, Bool.true_or, List.length_nil, List.length_cons, Nat.zero_le, or_true, true_or, Nat.le_refl, ↓reduceIte, Nat.reduceEqDiff, forall_const, false_and, and_false, false_implies, implies_true, not_true_eq_false, or_false, false_or, ne_eq, jd_X13_run, jf_X13, js_X13_forget, js_X13_laid, js_X13_laying, js_X13_no, js_X13_plain, js_X13_whyNoRun, cs_X13_run, jx_ck_c]
        refine ⟨⟨by rw [e9]; exact h1.1, by have := hmx.1; omega, by rw [e27]; have := z2 (by decide); omega, by rw [e38]; decide, mm_lnum_same hms hln, fun a x z => mm_act_same hms (hact a x (by rw [e9] at z; exact z)), mm_rows_same hms h5⟩, fun M' k1 k2 => ?_⟩
        have k0 : M' y 44 = mu_laid n (mu_forget (mY M y) 0) 0 44 := by rw [← mY_0 M' y 44, k1, mY_forget]
        rw [k0]
        exact mK_of hE1 (by rw [mY_u0, k1, mY_forget]) (mFr_u0 (mFr_tr (mFr_forget mFr_rf) k2))
  · exact hS.elim
