/-! LoopLane: hasUnits, lowestBeat, lowest, earliest, latest, tick -/
set_option maxRecDepth 100000
def js_X0_hasUnits : jx_Sp := fun as g M Po => match as with
  | [(60, _, x), (0, _, b)] => ∃ S, (0 ≤ x ∧ rBd x S g M ∧ mB S ∧ (1 ≤ b ∧ b ≤ 60)) ∧ (mm_U S b → Po (0, 0, 1) g M) ∧ (¬ mm_U S b → Po (0, 0, 0) g M)
  | _ => False
def cs_X0_hasUnits : jx_Cs := [(336, 1, 0, 0, ja_bits)]
theorem hc_X0_hasUnits {D : jx_D} {l : Launch} : jx_CsOK D l "LoopLane" 2 cs_X0_hasUnits := List.forall_mem_cons.mpr ⟨jz_bits (by decide), fun _ h => absurd h List.not_mem_nil⟩
set_option maxHeartbeats 4000000 in
theorem jt_X0_hasUnits (l : Launch) : jx_Ct l yX0_hasUnits (ws_ yX0_hasUnits cX0_hasUnits 5 (some .boolean)) 2 0 0 js_X0_hasUnits := by
  refine jx_Ct_c (rc := 4) (by decide) rfl (fun D as g M Po hS => ?_)
  unfold js_X0_hasUnits at hS
  split at hS
  · rename_i n1 x n2 b
    obtain ⟨S, ⟨hx, hR, hB, hb⟩, hY, hN⟩ := hS
    have h9 := hB.1
    have r5 := hR.1
    refine ⟨Nat.le_of_ble_eq_true rfl, ?_⟩
    have outer : ∀ (f k : Nat) (P3 P4 : jx_A), k + f = 6 → (∀ i, 0 ≤ i → i < (k : Int) → mm_ub S i ≤ b * S 10 i) → jx_V D l (yX0_hasUnits.cls, cX0_hasUnits, 5, 4, [], 2, 0, 0, yX0_hasUnits.name) Po 2 [(60, n1, x), (0, n2, b), (0, 0, (k : Int)), P3, P4] [] (0, 0) g (M) := by
      intro f
      induction f with
      | zero =>
        intro k P3 P4 hk k1
        refine jx_runL (o := jo_X0) (cs := cs_X0_hasUnits) (hf := jx_nh) jo_X0_ok hc_X0_hasUnits (jx_HK_nil rfl) (fun p => p == 8) 20 ?_
        simp only [jw, ju, jx_tg, Int.cast_ofNat_Int, Int.reduceAdd, Int.reduceToNat, Nat.reduceAdd, Nat.reduceMul, Nat.reduceBEq, Nat.reduceLeDiff, Int.reduceLE, Int.reduceLT, Int.reduceEq, Int.reduceNeg, Int.reduceSub, Int.reduceMul, not_false_eq_true, true_and, and_true, and_self, Bool.or_false, Bool.false_or, Bool.or_true, Bool.true_or, List.length_nil, List.length_cons, Nat.zero_le, or_true, true_or, Nat.le_refl, ↓reduceIte, Nat.reduceEqDiff, forall_const, false_and, and_false, false_implies, implies_true, not_true_eq_false, or_false, false_or, ne_eq, jd_X0_hasUnits, jf_X0, ja_bits, cs_X0_hasUnits, jx_ck_c]
        exact ⟨by omega, fun c => hY (fun i i0 i1 => k1 i i0 (by omega)), fun c => by omega⟩
      | succ f ih =>
        intro k P3 P4 hk k1
        have uk := hR.2.2.2.1 k (by omega) (by omega)
        have ur := hB.2.2.2.2.2 k (by omega) (by omega)
        have bu : 0 ≤ b * S 10 k := Int.mul_nonneg (by omega) ur.1
        have bu2 : b * S 10 k ≤ 60 * 4 := Int.mul_le_mul hb.2 ur.2 ur.1 (by decide)
        have inner : ∀ (q a : Nat), (a : Int) + q = S 0 9 → jx_V D l (yX0_hasUnits.cls, cX0_hasUnits, 5, 4, [], 2, 0, 0, yX0_hasUnits.name) Po 13 [(60, n1, x), (0, n2, b), (0, 0, (k : Int)), (0, 0, mm_sum (mm_ub1 S k) a), (0, 0, (a : Int))] [] (0, 0) g (M) := by
          intro q
          induction q with
          | zero =>
            intro a ha
            have es : mm_sum (mm_ub1 S k) a = mm_ub S k := by unfold mm_ub; rw [show (S 0 9).toNat = a by omega]
            have sr := mm_sum_r (mm_ub1 S k) 8 (by omega) a (fun v _ _ => mm_ub1_r)
            refine jx_runL (o := jo_X0) (cs := cs_X0_hasUnits) (hf := jx_nh) jo_X0_ok hc_X0_hasUnits (jx_HK_nil rfl) (fun p => p == 2 || p == 22) 40 ?_
            simp only [jw, ju, jx_tg, Int.cast_ofNat_Int, Int.reduceAdd, Int.reduceToNat, Nat.reduceAdd, Nat.reduceMul, Nat.reduceBEq, Nat.reduceLeDiff, Int.reduceLE, Int.reduceLT, Int.reduceEq, Int.reduceNeg, Int.reduceSub, Int.reduceMul, not_false_eq_true, true_and, and_true, and_self, Bool.or_false, Bool.false_or, Bool.or_true, Bool.true_or, List.length_nil, List.length_cons, Nat.zero_le, or_true, true_or, Nat.le_refl, ↓reduceIte, Nat.reduceEqDiff, forall_const, false_and, and_false, false_implies, implies_true, not_true_eq_false, or_false, false_or, ne_eq, jd_X0_hasUnits, jf_X0, r5, uk, ja_bits, cs_X0_hasUnits, jx_ck_c]
            refine ⟨by omega, fun c => ⟨by omega, by omega, fun c2 => ?_, fun c2 => hN (fun w => ?_)⟩, fun c => by omega⟩
            · have := ih (k + 1) (0, 0, mm_sum (mm_ub1 S k) a) (0, 0, (a : Int)) (by omega) (fun i i0 i1 => by
                rcases (show i < (k : Int) ∨ i = k by omega) with z | z
                · exact k1 i i0 z
                · rw [z]; omega)
              rw [show (((k + 1 : Nat) : Int)) = (k : Int) + 1 by omega] at this
              exact this
            · have := w k (by omega) (by omega)
              omega
          | succ q iq =>
            intro a ha
            have hA := hR.2.2.1 a (by omega) (by omega)
            have k3 := rA_k3 hA hx (by omega)
            have ki := rA_k hA hx (by omega)
            have wa := hB.2.2.1 a (by omega) (by omega)
            have nx := iq (a + 1) (by omega)
            rw [show mm_sum (mm_ub1 S k) (a + 1) = mm_sum (mm_ub1 S k) a + mm_ub1 S k a from rfl, show (((a + 1 : Nat) : Int)) = (a : Int) + 1 by omega] at nx
            refine jx_runL (o := jo_X0) (cs := cs_X0_hasUnits) (hf := jx_nh) jo_X0_ok hc_X0_hasUnits (jx_HK_nil rfl) (fun p => p == 13 || p == 59) 40 ?_
            simp only [jw, ju, jx_tg, Int.cast_ofNat_Int, Int.reduceAdd, Int.reduceToNat, Nat.reduceAdd, Nat.reduceMul, Nat.reduceBEq, Nat.reduceLeDiff, Int.reduceLE, Int.reduceLT, Int.reduceEq, Int.reduceNeg, Int.reduceSub, Int.reduceMul, not_false_eq_true, true_and, and_true, and_self, Bool.or_false, Bool.false_or, Bool.or_true, Bool.true_or, List.length_nil, List.length_cons, Nat.zero_le, or_true, true_or, Nat.le_refl, ↓reduceIte, Nat.reduceEqDiff, forall_const, false_and, and_false, false_implies, implies_true, not_true_eq_false, or_false, false_or, ne_eq, jd_X0_hasUnits, jf_X0, r5, rA_unit hA, rA_pat hA, ja_bits, cs_X0_hasUnits, jx_ck_c]
            refine ⟨by omega, fun c => by omega, fun c => ⟨by omega, k3, by omega, fun c2 => ?_, fun c2 => ⟨by omega, k3, ki, by omega, ?_⟩⟩⟩
            · rw [show mm_ub1 S k a = 0 from if_neg c2] at nx
              exact nx
            · rw [show mm_ub1 S k a = mm_bits (S 4 a) 8 from if_pos (by omega)] at nx
              exact nx
        refine jx_runL (o := jo_X0) (cs := cs_X0_hasUnits) (hf := jx_nh) jo_X0_ok hc_X0_hasUnits (jx_HK_nil rfl) (fun p => p == 13 || p == 79) 20 ?_
        simp only [jw, ju, jx_tg, Int.cast_ofNat_Int, Int.reduceAdd, Int.reduceToNat, Nat.reduceAdd, Nat.reduceMul, Nat.reduceBEq, Nat.reduceLeDiff, Int.reduceLE, Int.reduceLT, Int.reduceEq, Int.reduceNeg, Int.reduceSub, Int.reduceMul, not_false_eq_true, true_and, and_true, and_self, Bool.or_false, Bool.false_or, Bool.or_true, Bool.true_or, List.length_nil, List.length_cons, Nat.zero_le, or_true, true_or, Nat.le_refl, ↓reduceIte, Nat.reduceEqDiff, forall_const, false_and, and_false, false_implies, implies_true, not_true_eq_false, or_false, false_or, ne_eq, jd_X0_hasUnits, jf_X0, ja_bits, cs_X0_hasUnits, jx_ck_c]
        exact ⟨by omega, fun c => by omega, fun c => inner (S 0 9).toNat 0 (by omega)⟩
    refine jx_runL (o := jo_X0) (cs := cs_X0_hasUnits) (hf := jx_nh) jo_X0_ok hc_X0_hasUnits (jx_HK_nil rfl) (fun p => p == 2) 20 ?_
    simp only [jw, ju, jx_tg, Int.cast_ofNat_Int, Int.reduceAdd, Int.reduceToNat, Nat.reduceAdd, Nat.reduceMul, Nat.reduceBEq, Nat.reduceLeDiff, Int.reduceLE, Int.reduceLT, Int.reduceEq, Int.reduceNeg, Int.reduceSub, Int.reduceMul, not_false_eq_true, true_and, and_true, and_self, Bool.or_false, Bool.false_or, Bool.or_true, Bool.true_or, List.length_nil, List.length_cons, Nat.zero_le, or_true, true_or, Nat.le_refl, ↓reduceIte, Nat.reduceEqDiff, forall_const, false_and, and_false, false_implies, implies_true, not_true_eq_false, or_false, false_or, ne_eq, jd_X0_hasUnits, jf_X0, ja_bits, cs_X0_hasUnits, jx_ck_c]
    exact outer 6 0 _ _ rfl (fun i i0 i1 => by omega)
  · exact hS.elim
theorem mm_Rg_up {S : jx_M} (hB : mB S) {b c : Int} (h : b ≤ c) (hr : mm_Rg S b) : mm_Rg S c := by
  obtain ⟨f, h1, h2⟩ := hr
  refine ⟨f, h1, fun x y t d he hx hy => ?_⟩
  have := h2 x y t d he hx hy
  have hd := (me_all_r hB he).2.2.2
  have : b * d ≤ c * d := Int.mul_le_mul_of_nonneg_right h hd.1
  unfold mm_wt at *
  omega
theorem xf_E_all {S : jx_M} (hB : mB S) : xf_E (me_all S) := fun a b t d h => by
  have := me_all_r hB h
  have := hB.1
  omega
/-- the lowest beat -/
theorem mm_lw_is {S : jx_M} (hB : mB S) {b : Int} (hb : 1 ≤ b ∧ b ≤ 60) (hU : mm_U S b) (hr : mm_Rg S b) (hn : ∀ c, 1 ≤ c → c < b → ¬ (mm_U S c ∧ mm_Rg S c)) : mm_lw S = b := by
  have u1 := (mm_byU_le hB.1 hB.2.2.2.2.2 hb).mpr hU
  have ur := mm_byU_r hB.1 hB.2.2.2.2.2
  have sp := mm_fst_spec (mm_Rg S) 100000 60 1
  have f1 : 1 ≤ mm_fst (mm_Rg S) 100000 60 1 ∧ mm_fst (mm_Rg S) 100000 60 1 ≤ b ∧ mm_Rg S (mm_fst (mm_Rg S) 100000 60 1) := by
    rcases sp with q | q
    · exact absurd hr (q.1 b (by omega) (by omega))
    · refine ⟨by omega, ?_, q.2.2.1⟩
      apply Classical.byContradiction
      intro z
      exact q.2.2.2 b (by omega) (by omega) hr
  unfold mm_lw
  apply Classical.byContradiction
  intro z
  obtain ⟨c, hc⟩ : ∃ c, c = max (mm_byU S) (mm_fst (mm_Rg S) 100000 60 1) := ⟨_, rfl⟩
  refine hn c (by omega) (by omega) ⟨(mm_byU_le hB.1 hB.2.2.2.2.2 (by omega)).mp (by omega), mm_Rg_up hB (by omega) f1.2.2⟩
theorem mm_lw_no {S : jx_M} (hB : mB S) (hn : ∀ c, 1 ≤ c → c < 61 → ¬ (mm_U S c ∧ mm_Rg S c)) : 60 < mm_lw S := by
  have ur := mm_byU_r hB.1 hB.2.2.2.2.2
  have sp := mm_fst_spec (mm_Rg S) 100000 60 1
  apply Classical.byContradiction
  intro z
  have e : mm_lw S = max (mm_byU S) (mm_fst (mm_Rg S) 100000 60 1) := rfl
  rcases sp with q | q
  · omega
  · refine hn (mm_lw S) (by omega) (by omega) ⟨(mm_byU_le hB.1 hB.2.2.2.2.2 (by omega)).mp (by omega), mm_Rg_up hB (by omega) q.2.2.1⟩
theorem mm_lwW {S : jx_M} (hB : mB S) : 1 ≤ mm_lw S := by
  have ur := mm_byU_r hB.1 hB.2.2.2.2.2
  unfold mm_lw
  omega
theorem xF36_B {x : Int} {S : jx_M} {g : jx_S} {M M' : jx_M} (h9 : S 0 9 ≤ 16) (h : xF36 x M M') (hR : rBd x S g M) : rBd x S g M' := rBd_c h9 hR (fun z k w => h z k (by unfold qBd at w; omega))
theorem xF36_E {x : Int} {S : jx_M} {M M' : jx_M} (h : xF36 x M M') (hR : rEd x S M) : rEd x S M' := rEd_c hR (fun z k w => h z k (by unfold qEd at w; omega))
theorem xF36_R {x : Int} {S : jx_M} {g : jx_S} {M M' : jx_M} (h9 : S 0 9 ≤ 16) (h : xF36 x M M') (hR : rR x S g M) : rR x S g M' := rR_c h9 hR (fun z k w => h z k (by have := hR.1.1; unfold qBd qEd qLd qRs qMs qSl at w; omega))
theorem xF36_F {x : Int} {g : jx_S} {M M' : jx_M} (h : xF36 x M M') : rFr x g M g M' := ⟨rG_rf, fun z i w => h z i (by omega)⟩
theorem rEd_23 {x : Int} {S : jx_M} {M : jx_M} (hB : mB S) (h : rEd x S M) : 0 ≤ M x 23 ∧ M x 23 ≤ 900 := by
  have := h.1
  have := me_n_r (S := S) hB.1
  have := hB.2.1
  omega
def js_X0_lowestBeat : jx_Sp := fun as g M Po => match as with
  | [(60, _, x)] => ∃ S, (0 ≤ x ∧ rBd x S g M ∧ rEd x S M ∧ mB S) ∧ ∀ M', xF36 x M M' → Po (0, 0, if mm_lw S ≤ 60 then mm_lw S else -9) g M'
  | _ => False
def cs_X0_lowestBeat : jx_Cs := [(354, 2, 0, 0, js_X0_hasUnits), (366, 4, 0, 0, js_X0_findWays)]
theorem hc_X0_lowestBeat {D : jx_D} {l : Launch} : jx_CsOK D l "LoopLane" 4 cs_X0_lowestBeat := List.forall_mem_cons.mpr ⟨jc_X0_118 (jt_X0_hasUnits l) (fun as g M Po (h : js_X0_hasUnits as g M Po) => by unfold js_X0_hasUnits at h; split at h <;> first | exact h.elim | exact ⟨_, _, _, rfl, rfl⟩) (by decide), List.forall_mem_cons.mpr ⟨jc_X0_122 (jt_X0_findWays l) (fun as g M Po (h : js_X0_findWays as g M Po) => by unfold js_X0_findWays at h; split at h <;> first | exact h.elim | exact ⟨_, _, _, rfl, rfl⟩) (by decide), fun _ h => absurd h List.not_mem_nil⟩⟩
set_option maxHeartbeats 4000000 in
theorem jt_X0_lowestBeat (l : Launch) : jx_Ct l yX0_lowestBeat (ws_ yX0_lowestBeat cX0_lowestBeat 2 (some .int)) 4 0 0 js_X0_lowestBeat := by
  refine jx_Ct_c (rc := 0) (by decide) rfl (fun D as g M Po hS => ?_)
  unfold js_X0_lowestBeat at hS
  split at hS
  · rename_i n1 x
    obtain ⟨S, ⟨hx, hR, hE, hB⟩, hP⟩ := hS
    have h9 := hB.1
    refine ⟨Nat.le_of_ble_eq_true rfl, ?_⟩
    have loop : ∀ (f b : Nat) (M' : jx_M), b + f = 61 → 1 ≤ b → xF36 x M M' → (∀ c, 1 ≤ c → c < (b : Int) → ¬ (mm_U S c ∧ mm_Rg S c)) → jx_V D l (yX0_lowestBeat.cls, cX0_lowestBeat, 2, 0, [], 4, 0, 0, yX0_lowestBeat.name) Po 2 [(60, n1, x), (0, 0, (b : Int))] [] (0, 0) g (M') := by
      intro f
      induction f with
      | zero =>
        intro b M' hb b1 k1 k2
        have no := mm_lw_no hB (fun c c1 c2 => k2 c c1 (by omega))
        have hp := hP M' k1
        rw [if_neg (by omega)] at hp
        refine jx_runL (o := jo_X0) (cs := cs_X0_lowestBeat) (hf := jx_nh) jo_X0_ok hc_X0_lowestBeat (jx_HK_nil rfl) (fun p => p == 8) 20 ?_
        simp only [jw, ju, jx_tg, Int.cast_ofNat_Int, Int.reduceAdd, Int.reduceToNat, Nat.reduceAdd, Nat.reduceMul, Nat.reduceBEq, Nat.reduceLeDiff, Int.reduceLE, Int.reduceLT, Int.reduceEq, Int.reduceNeg, Int.reduceSub, Int.reduceMul, not_false_eq_true, true_and, and_true, and_self, Bool.or_false, Bool.false_or, Bool.or_true, Bool.true_or, List.length_nil, List.length_cons, Nat.zero_le, or_true, true_or, Nat.le_refl, ↓reduceIte, Nat.reduceEqDiff, forall_const, false_and, and_false, false_implies, implies_true, not_true_eq_false, or_false, false_or, ne_eq, jd_X0_lowestBeat, jf_X0, js_X0_findWays, js_X0_hasUnits, cs_X0_lowestBeat, jx_ck_c]
        exact ⟨by omega, fun c => hp, fun c => by omega⟩
      | succ f ih =>
        intro b M' hb b1 k1 k2
        have R' := xF36_B h9.2 k1 hR
        have E' := xF36_E k1 hE
        have e23 := rEd_23 hB E'
        have nx : ∀ M'', xF36 x M M'' → ¬ (mm_U S b ∧ mm_Rg S b) → jx_V D l (yX0_lowestBeat.cls, cX0_lowestBeat, 2, 0, [], 4, 0, 0, yX0_lowestBeat.name) Po 31 [(60, n1, x), (0, 0, (b : Int))] [] (0, 0) g (M'') := by
          intro M'' j1 j2
          refine jx_runL (o := jo_X0) (cs := cs_X0_lowestBeat) (hf := jx_nh) jo_X0_ok hc_X0_lowestBeat (jx_HK_nil rfl) (fun p => p == 2) 20 ?_
          simp only [jw, ju, jx_tg, Int.cast_ofNat_Int, Int.reduceAdd, Int.reduceToNat, Nat.reduceAdd, Nat.reduceMul, Nat.reduceBEq, Nat.reduceLeDiff, Int.reduceLE, Int.reduceLT, Int.reduceEq, Int.reduceNeg, Int.reduceSub, Int.reduceMul, not_false_eq_true, true_and, and_true, and_self, Bool.or_false, Bool.false_or, Bool.or_true, Bool.true_or, List.length_nil, List.length_cons, Nat.zero_le, or_true, true_or, Nat.le_refl, ↓reduceIte, Nat.reduceEqDiff, forall_const, false_and, and_false, false_implies, implies_true, not_true_eq_false, or_false, false_or, ne_eq, jd_X0_lowestBeat, jf_X0, js_X0_findWays, js_X0_hasUnits, cs_X0_lowestBeat, jx_ck_c]
          have := ih (b + 1) M'' (by omega) (by omega) j1 (fun c c1 c2 => by
            rcases (show c < (b : Int) ∨ c = b by omega) with z | z
            · exact k2 c c1 z
            · rw [z]; exact j2)
          rw [show (((b + 1 : Nat) : Int)) = (b : Int) + 1 by omega] at this
          exact this
        refine jx_runL (o := jo_X0) (cs := cs_X0_lowestBeat) (hf := jx_nh) jo_X0_ok hc_X0_lowestBeat (jx_HK_nil rfl) (fun p => p == 31 || p == 37) 40 ?_
        simp only [jw, ju, jx_tg, Int.cast_ofNat_Int, Int.reduceAdd, Int.reduceToNat, Nat.reduceAdd, Nat.reduceMul, Nat.reduceBEq, Nat.reduceLeDiff, Int.reduceLE, Int.reduceLT, Int.reduceEq, Int.reduceNeg, Int.reduceSub, Int.reduceMul, not_false_eq_true, true_and, and_true, and_self, Bool.or_false, Bool.false_or, Bool.or_true, Bool.true_or, List.length_nil, List.length_cons, Nat.zero_le, or_true, true_or, Nat.le_refl, ↓reduceIte, Nat.reduceEqDiff, forall_const, false_and, and_false, false_implies, implies_true, not_true_eq_false, or_false, false_or, ne_eq, jd_X0_lowestBeat, jf_X0, R'.1, js_X0_findWays, js_X0_hasUnits, cs_X0_lowestBeat, jx_ck_c]
        refine ⟨by omega, fun c => by omega, fun c => ⟨S, ⟨hx, R', hB, by omega⟩, fun c2 => ?_, fun c2 => nx M' k1 (fun z => c2 z.1)⟩⟩
        refine ⟨me_all S, ⟨h9, by omega, e23, E'.2.2, xf_E_all hB⟩, fun r M'' f1 hr => ?_⟩
        have k3 : xF36 x M M'' := fun z k hz => (f1 z k hz).trans (k1 z k hz)
        rcases hr with ⟨rfl, hI⟩ | ⟨rfl, hno⟩
        · have hn9 : ((S 0 9).toNat : Int) = S 0 9 := by omega
          have hl := xf_least (n := (S 0 9).toNat) (fun a b t d h => ⟨(xf_E_all hB a b t d h).1.1, (xf_E_all hB a b t d h).2.1.1⟩) (by rw [hn9]; exact hI)
          rw [hn9] at hl
          have hrg : mm_Rg S b := ⟨_, hl.1⟩
          have hp := hP M'' k3
          have elw := mm_lw_is hB (b := b) (by omega) c2 hrg k2
          rw [elw, if_pos (by omega)] at hp
          exact ⟨by decide, fun z => absurd z (by decide), fun z => hp⟩
        · exact ⟨by decide, fun z => nx M'' k3 (fun w => hno w.2), fun z => absurd rfl z⟩
    refine jx_runL (o := jo_X0) (cs := cs_X0_lowestBeat) (hf := jx_nh) jo_X0_ok hc_X0_lowestBeat (jx_HK_nil rfl) (fun p => p == 2) 20 ?_
    simp only [jw, ju, jx_tg, Int.cast_ofNat_Int, Int.reduceAdd, Int.reduceToNat, Nat.reduceAdd, Nat.reduceMul, Nat.reduceBEq, Nat.reduceLeDiff, Int.reduceLE, Int.reduceLT, Int.reduceEq, Int.reduceNeg, Int.reduceSub, Int.reduceMul, not_false_eq_true, true_and, and_true, and_self, Bool.or_false, Bool.false_or, Bool.or_true, Bool.true_or, List.length_nil, List.length_cons, Nat.zero_le, or_true, true_or, Nat.le_refl, ↓reduceIte, Nat.reduceEqDiff, forall_const, false_and, and_false, false_implies, implies_true, not_true_eq_false, or_false, false_or, ne_eq, jd_X0_lowestBeat, jf_X0, js_X0_findWays, js_X0_hasUnits, cs_X0_lowestBeat, jx_ck_c]
    exact loop 60 1 M rfl (by decide) (fun _ _ _ => rfl) (fun c c1 c2 => by omega)
  · exact hS.elim
def js_X0_lowest : jx_Sp := fun as g M Po => match as with
  | [(60, _, x)] => ∃ S, (rR x S g M ∧ mW S) ∧ rK x g M Po 0 (f_lowest S).1 (f_lowest S).2
  | _ => False
def cs_X0_lowest : jx_Cs := [(780, 1, 0, 0, js_X0_isWhole), (1362, 1, 0, 0, js_X0_lowestBeat), (1161, 2, 0, 0, js_X0_refuse)]
theorem hc_X0_lowest {D : jx_D} {l : Launch} : jx_CsOK D l "LoopLane" 5 cs_X0_lowest := List.forall_mem_cons.mpr ⟨jc_X0_260 (jt_X0_isWhole l) (fun as g M Po (h : js_X0_isWhole as g M Po) => by unfold js_X0_isWhole at h; split at h <;> first | exact h.elim | exact ⟨_, _, _, rfl, rfl⟩) (by decide), List.forall_mem_cons.mpr ⟨jc_X0_454 (jt_X0_lowestBeat l) (fun as g M Po (h : js_X0_lowestBeat as g M Po) => by unfold js_X0_lowestBeat at h; split at h <;> first | exact h.elim | exact ⟨_, _, _, rfl, rfl⟩) (by decide), List.forall_mem_cons.mpr ⟨jc_X0_387 (jt_X0_refuse l) (fun as g M Po (h : js_X0_refuse as g M Po) => by unfold js_X0_refuse at h; split at h <;> first | exact h.elim | exact ⟨_, _, _, rfl, rfl⟩) (by decide), fun _ h => absurd h List.not_mem_nil⟩⟩⟩
set_option maxHeartbeats 4000000 in
theorem jt_X0_lowest (l : Launch) : jx_Ct l yX0_lowest (ws_ yX0_lowest cX0_lowest 2 (some .int)) 5 0 0 js_X0_lowest := by
  refine jx_Ct_c (rc := 0) (by decide) rfl (fun D as g M Po hS => ?_)
  unfold js_X0_lowest at hS
  split at hS
  · rename_i n1 x
    obtain ⟨S, ⟨hR, hW⟩, hK⟩ := hS
    have hB := hW.1
    have h9 := hB.1
    have x0 := hR.1.1
    have r5 := hR.2.1.1
    unfold f_lowest mm_ready at hK
    simp only [rK_ite, mno] at hK
    refine ⟨Nat.le_of_ble_eq_true rfl, ?_⟩
    have at14 : ¬ (0 < S 0 9 ∧ mm_whole S) → jx_V D l (yX0_lowest.cls, cX0_lowest, 2, 0, [], 5, 0, 0, yX0_lowest.name) Po 14 [(60, n1, x), (5, 0, 0)] [] (0, 0) g (M) := by
      intro c
      refine jx_runL (o := jo_X0) (cs := cs_X0_lowest) (hf := jx_nh) jo_X0_ok hc_X0_lowest (jx_HK_nil rfl) (fun _ => false) 20 ?_
      simp only [jw, ju, jx_tg, Int.cast_ofNat_Int, Int.reduceAdd, Int.reduceToNat, Nat.reduceAdd, Nat.reduceMul, Nat.reduceBEq, Nat.reduceLeDiff, Int.reduceLE, Int.reduceLT, Int.reduceEq, Int.reduceNeg, Int.reduceSub, Int.reduceMul, not_false_eq_true, true_and, and_true, and_self, Bool.or_false, Bool.false_or, Bool.or_true, Bool.true_or, List.length_nil, List.length_cons, Nat.zero_le, or_true, true_or, Nat.le_refl, ↓reduceIte, Nat.reduceEqDiff, forall_const, false_and, and_false, false_implies, implies_true, not_true_eq_false, or_false, false_or, ne_eq, jd_X0_lowest, jf_X0, js_X0_isWhole, js_X0_lowestBeat, js_X0_refuse, cs_X0_lowest, jx_ck_c]
      exact rK_no h9.2 (by decide) hR rFr_rf (hK.2 c)
    refine jx_runL (o := jo_X0) (cs := cs_X0_lowest) (hf := jx_nh) jo_X0_ok hc_X0_lowest (jx_HK_nil rfl) (fun p => p == 14) 60 ?_
    simp only [jw, ju, jx_tg, Int.cast_ofNat_Int, Int.reduceAdd, Int.reduceToNat, Nat.reduceAdd, Nat.reduceMul, Nat.reduceBEq, Nat.reduceLeDiff, Int.reduceLE, Int.reduceLT, Int.reduceEq, Int.reduceNeg, Int.reduceSub, Int.reduceMul, not_false_eq_true, true_and, and_true, and_self, Bool.or_false, Bool.false_or, Bool.or_true, Bool.true_or, List.length_nil, List.length_cons, Nat.zero_le, or_true, true_or, Nat.le_refl, ↓reduceIte, Nat.reduceEqDiff, forall_const, false_and, and_false, false_implies, implies_true, not_true_eq_false, or_false, false_or, ne_eq, jd_X0_lowest, jf_X0, r5, js_X0_isWhole, js_X0_lowestBeat, js_X0_refuse, cs_X0_lowest, jx_ck_c]
    refine ⟨by omega, fun c => at14 (by omega), fun c => ⟨S, ⟨x0, hR.2.1, hB⟩, fun c2 => ?_, fun c2 => at14 (fun z => c2 z.2)⟩⟩
    have hK2 := hK.1 ⟨by omega, c2⟩
    refine ⟨S, ⟨x0, hR.2.1, hR.2.2.1, hB⟩, fun M' k1 => ?_⟩
    have lr := mm_lwW hB
    have R' := xF36_R h9.2 k1 hR
    by_cases cl : mm_lw S ≤ 60
    · rw [if_pos cl]
      exact ⟨⟨by omega, by omega⟩, fun z => hK2.1 cl _ _ R' (xF36_F k1), fun z => by omega⟩
    · rw [if_neg cl]
      exact ⟨⟨by decide, by decide⟩, fun z => absurd z (by decide), fun z => rK_no h9.2 (by decide) R' (xF36_F k1) (hK2.2 cl)⟩
  · exact hS.elim
