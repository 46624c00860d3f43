/-! LoopLane: empty, row, set, get -/
set_option maxRecDepth 100000
theorem rR_rows {x : Int} {S S' : jx_M} {g g' : jx_S} {M M' : jx_M} (h9 : S 0 9 ≤ 16) (hR : rR x S g M) (es : ∀ j, j ≠ 19 → j ≠ 21 → j ≠ 22 → S' j = S j) (hM : ∀ z k, ¬ qSl x z → M' z k = M z k) (hg : rG g g') (hsl : rSl x S' g' M') : rR x S' g' M' := by
  have x0 := hR.1.1
  have z : mZ S S' := ⟨fun j a b => es j (by omega) (by omega) (by omega), by rw [es 0 (by decide) (by decide) (by decide)], by rw [es 0 (by decide) (by decide) (by decide)]⟩
  have e0 := es 0 (by decide) (by decide) (by decide)
  refine ⟨rSh_g hR.1 hg, rBd_g (by rw [e0]; exact h9) hR.1 (rBd_c (by rw [e0]; exact h9) (rBd_Z z hR.2.1) (fun z k w => hM z k (by unfold qBd at w; unfold qSl; omega))) hg, rEd_c (rEd_Z z hR.2.2.1) (fun z k w => hM z k (by unfold qEd at w; unfold qSl; omega)), ?_, ?_, ?_, hsl⟩
  · exact rLd_S (rLd_c hR.2.2.2.1 (fun z k w => hM z k (by unfold qLd at w; unfold qSl; omega))) (by rw [e0]) (by rw [e0]) (es _ (by decide) (by decide) (by decide)) (es _ (by decide) (by decide) (by decide)) (es _ (by decide) (by decide) (by decide))
  · exact rRs_S (rRs_c hR.2.2.2.2.1 (fun z k w => hM z k (by unfold qRs at w; unfold qSl; omega))) (fun k _ _ => by rw [e0]) (by rw [e0]) (es _ (by decide) (by decide) (by decide))
  · exact rMs_S (rMs_c hR.2.2.2.2.2.1 (fun z k w => hM z k (by unfold qMs at w; unfold qSl; omega))) (by rw [e0]) (by rw [e0]) (es _ (by decide) (by decide) (by decide)) (es _ (by decide) (by decide) (by decide))
/-- a slot is emptied -/
theorem rSl_empty {x s : Int} {S : jx_M} {g : jx_S} {M : jx_M} (hs : 0 ≤ s ∧ s < 8) (h : rSl x S g M) : rSl x (jx_u S 21 s 0) g (jx_u M (x + 5 + s) 0 (-1)) := by
  refine ⟨fun t t0 t1 => ?_, fun t u t0 t1 u0 u1 hn c1 c2 => ?_⟩
  · have ht := h.1 t t0 t1
    unfold rS1 at ht ⊢
    simp only [jx_u_row (show (22 : Int) ≠ 21 by decide), jx_u_row (show (19 : Int) ≠ 21 by decide)]
    by_cases c : t = s
    · rw [c, jx_u_eq, jx_u_eq]
      exact ⟨fun _ => rfl, fun w => absurd rfl w⟩
    · rw [jx_u_j _ _ _ _ _ _ c, jx_u_a _ _ _ _ _ _ (by omega)]
      refine ⟨ht.1, fun w => ⟨(ht.2 w).1, fun d => ⟨((ht.2 w).2.1 d).1, fun i i0 i1 => ?_⟩, (ht.2 w).2.2⟩⟩
      rw [jx_u_a _ _ _ _ _ _ (by have := (ht.2 w).1; omega)]
      exact ((ht.2 w).2.1 d).2 i i0 i1
  · have ct : t ≠ s := fun e => by rw [e, jx_u_eq] at c1; exact c1 rfl
    have cu : u ≠ s := fun e => by rw [e, jx_u_eq] at c2; exact c2 rfl
    rw [jx_u_j _ _ _ _ _ _ ct] at c1
    rw [jx_u_j _ _ _ _ _ _ cu] at c2
    rw [jx_u_a _ _ _ _ _ _ (by omega), jx_u_a _ _ _ _ _ _ (by omega)]
    exact h.2 t u t0 t1 u0 u1 hn c1 c2
def js_X0_empty : jx_Sp := fun as g M Po => match as with
  | [(60, _, x), (0, _, s)] => ∃ S, (rR x S g M ∧ mW S ∧ jx_r s) ∧ rK x g M Po 0 (f_empty s S).1 (f_empty s S).2
  | _ => False
def cs_X0_empty : jx_Cs := [(1135, 3, 0, 0, js_X0_isIn), (1161, 2, 0, 0, js_X0_refuse)]
theorem hc_X0_empty {D : jx_D} {l : Launch} : jx_CsOK D l "LoopLane" 5 cs_X0_empty := List.forall_mem_cons.mpr ⟨jc_X0_378 (jt_X0_isIn l) (fun as g M Po (h : js_X0_isIn as g M Po) => by unfold js_X0_isIn at h; split at h <;> first | exact h.elim | exact rfl) (by decide), List.forall_mem_cons.mpr ⟨jc_X0_387 (jt_X0_refuse l) (fun as g M Po (h : js_X0_refuse as g M Po) => by unfold js_X0_refuse at h; split at h <;> first | exact h.elim | exact ⟨_, _, _, rfl, rfl⟩) (by decide), fun _ h => absurd h List.not_mem_nil⟩⟩
set_option maxHeartbeats 4000000 in
theorem jt_X0_empty (l : Launch) : jx_Ct l yX0_empty (ws_ yX0_empty cX0_empty 3 (some .int)) 5 0 0 js_X0_empty := by
  refine jx_Ct_c (rc := 0) (by decide) rfl (fun D as g M Po hS => ?_)
  unfold js_X0_empty at hS
  split at hS
  · rename_i n1 x n2 s
    obtain ⟨S, ⟨hR, hW, rs⟩, hK⟩ := hS
    have hB := hW.1
    have h9 := hB.1
    have x0 := hR.1.1
    unfold f_empty at hK
    simp only [rK_ite, mno] at hK
    refine ⟨Nat.le_of_ble_eq_true rfl, ?_⟩
    refine jx_runL (o := jo_X0) (cs := cs_X0_empty) (hf := jx_nh) jo_X0_ok hc_X0_empty (jx_HK_nil rfl) (fun _ => false) 60 ?_
    simp only [jw, ju, jx_tg, Int.cast_ofNat_Int, Int.reduceAdd, Int.reduceToNat, Nat.reduceAdd, Nat.reduceMul, Nat.reduceBEq, Nat.reduceLeDiff, Int.reduceLE, Int.reduceLT, Int.reduceEq, Int.reduceNeg, Int.reduceSub, Int.reduceMul, not_false_eq_true, true_and, and_true, and_self, Bool.or_false, Bool.false_or, Bool.or_true, Bool.true_or, List.length_nil, List.length_cons, Nat.zero_le, or_true, true_or, Nat.le_refl, ↓reduceIte, Nat.reduceEqDiff, forall_const, false_and, and_false, false_implies, implies_true, not_true_eq_false, or_false, false_or, ne_eq, jd_X0_empty, jf_X0, show x + 3 + 1 + (1 + s) = x + 5 + s by omega, js_X0_isIn, js_X0_refuse, cs_X0_empty, jx_ck_c]
    refine ⟨rs, fun c => ?_, fun c => rK_no h9.2 (by decide) hR rFr_rf (hK.2 (by omega))⟩
    have h1 := hR.2.2.2.2.2.2.1 s c.1 (by omega)
    have hw := hW.2.2.2.2.2.1 s c.1 (by omega)
    have fin : rR x (jx_u S 21 s 0) g (jx_u M (x + 5 + s) 0 (-1)) := rR_rows h9.2 hR (fun j _ h _ => jx_u_row h) (fun z k w => jx_u_a _ _ _ _ _ _ (by unfold qSl at w; omega)) rG_rf (rSl_empty (by omega) hR.2.2.2.2.2.2)
    have fr : rFr x g M g (jx_u M (x + 5 + s) 0 (-1)) := rFr_u rFr_rf (by omega)
    have hK2 := hK.1 (by omega)
    refine ⟨by omega, fun c2 => ⟨by omega, hK2.2 ?_ _ _ fin fr⟩, fun c2 => ⟨by omega, hK2.1 ?_ _ _ fin fr⟩⟩
    · by_cases z : S 21 s = 0
      · omega
      · have := (h1.2 z).1; omega
    · by_cases z : S 21 s = 0
      · have := h1.1 z; omega
      · omega
  · exact hS.elim
/-- a long of a row is set -/
theorem rSl_set {x s i v : Int} {S : jx_M} {g : jx_S} {M : jx_M} (hr : mm_rows S) (x0 : 0 ≤ x) (hs : 0 ≤ s ∧ s < 8) (c1 : S 21 s ≠ 0) (c2 : S 22 s ≠ 0) (hi : 0 ≤ i ∧ i < S 21 s) (h : rSl x S g M) : rSl x (jx_u S 19 (40 * s + i) v) g (jx_u M (M (x + 5 + s) 0) i v) := by
  have hs1 := (h.1 s hs.1 hs.2).2 c1
  have e21 : jx_u S 19 (40 * s + i) v 21 = S 21 := jx_u_row (by decide)
  have e22 : jx_u S 19 (40 * s + i) v 22 = S 22 := jx_u_row (by decide)
  have mh : ∀ t, 0 ≤ t → t < 8 → jx_u M (M (x + 5 + s) 0) i v (x + 5 + t) 0 = M (x + 5 + t) 0 := fun t t0 t1 => jx_u_a _ _ _ _ _ _ (by have := hs1.1; omega)
  have hrs := hr s hs.1 hs.2
  refine ⟨fun t t0 t1 => ?_, fun t u t0 t1 u0 u1 hn d1 d2 => ?_⟩
  · have ht := h.1 t t0 t1
    have hrt := hr t t0 t1
    unfold rS1 at ht ⊢
    rw [e21, e22, mh t t0 t1]
    refine ⟨ht.1, fun w => ⟨(ht.2 w).1, fun d => ⟨((ht.2 w).2.1 d).1, fun j j0 j1 => ?_⟩, (ht.2 w).2.2⟩⟩
    have old := ((ht.2 w).2.1 d).2 j j0 j1
    by_cases c : t = s
    · rw [c] at old j1 ⊢
      by_cases cj : j = i
      · rw [cj, jx_u_eq, jx_u_eq]
      · rw [jx_u_j _ _ _ _ _ _ cj, jx_u_j _ _ _ _ _ _ (by omega)]; exact old
    · have hd := h.2 t s t0 t1 hs.1 hs.2 c w c1
      rw [jx_u_a _ _ _ _ _ _ hd, jx_u_j _ _ _ _ _ _ (by omega)]
      exact old
  · rw [e21] at d1 d2
    rw [mh t t0 t1, mh u u0 u1]
    exact h.2 t u t0 t1 u0 u1 hn d1 d2
theorem mm_why2_v {S : jx_M} {s i : Int} (hr : mm_rows S) : (¬ (0 ≤ s ∧ s < 8) → mm_why2 S s i = -3) ∧ (0 ≤ s ∧ s < 8 → (S 21 s = 0 → mm_why2 S s i = -2) ∧ (S 21 s ≠ 0 → (S 22 s = 0 → mm_why2 S s i = -5) ∧ (S 22 s ≠ 0 → (0 ≤ i ∧ i < S 21 s → mm_why2 S s i = 0) ∧ (¬ (0 ≤ i ∧ i < S 21 s) → mm_why2 S s i = -3)))) := by
  unfold mm_why2 mm_why
  refine ⟨fun c => if_neg c, fun c => ⟨fun d => by rw [if_pos c, if_pos d], fun d => ⟨fun e => by rw [if_pos c, if_neg d, if_pos e], fun e => ⟨fun f => by rw [if_pos c, if_neg d, if_neg e, if_pos f], fun f => by rw [if_pos c, if_neg d, if_neg e, if_neg f]⟩⟩⟩⟩
def js_X0_set : jx_Sp := fun as g M Po => match as with
  | [(60, _, x), (0, _, s), (0, _, i), (1, _, v)] => ∃ S, (rR x S g M ∧ mW S ∧ jx_r s ∧ jx_r i) ∧ rK x g M Po 0 (f_set s i v S).1 (f_set s i v S).2
  | _ => False
def cs_X0_set : jx_Cs := [(1332, 2, 3, 2000, js_X1_longs), (1161, 2, 0, 0, js_X0_refuse)]
theorem hc_X0_set {D : jx_D} {l : Launch} : jx_CsOK D l "LoopLane" 5 cs_X0_set := List.forall_mem_cons.mpr ⟨jc_X0_444 (jt_X1_longs l) (fun as g M Po (h : js_X1_longs as g M Po) => by unfold js_X1_longs at h; split at h <;> first | exact h.elim | exact ⟨_, _, _, rfl, rfl⟩) (by decide), List.forall_mem_cons.mpr ⟨jc_X0_387 (jt_X0_refuse l) (fun as g M Po (h : js_X0_refuse as g M Po) => by unfold js_X0_refuse at h; split at h <;> first | exact h.elim | exact ⟨_, _, _, rfl, rfl⟩) (by decide), fun _ h => absurd h List.not_mem_nil⟩⟩
abbrev th_X0_set : List (Nat × Nat × Nat × Nat) := [(0, 12, 13, 189), (0, 12, 22, 191), (0, 12, 31, 193)]
theorem jh_X0_set : jx_hf th_X0_set 5 1 = some 13 ∧ jx_hf th_X0_set 5 2 = some 22 ∧ jx_hf th_X0_set 5 3 = some 31 ∧ jx_hf th_X0_set 5 4 = none ∧ jx_hf th_X0_set 5 5 = none ∧ jx_hf th_X0_set 5 6 = none ∧ jx_hf th_X0_set 18 1 = none ∧ jx_hf th_X0_set 18 2 = none ∧ jx_hf th_X0_set 18 3 = none ∧ jx_hf th_X0_set 18 4 = none ∧ jx_hf th_X0_set 18 5 = none ∧ jx_hf th_X0_set 18 6 = none ∧ jx_hf th_X0_set 27 1 = none ∧ jx_hf th_X0_set 27 2 = none ∧ jx_hf th_X0_set 27 3 = none ∧ jx_hf th_X0_set 27 4 = none ∧ jx_hf th_X0_set 27 5 = none ∧ jx_hf th_X0_set 27 6 = none ∧ jx_hf th_X0_set 36 1 = none ∧ jx_hf th_X0_set 36 2 = none ∧ jx_hf th_X0_set 36 3 = none ∧ jx_hf th_X0_set 36 4 = none ∧ jx_hf th_X0_set 36 5 = none ∧ jx_hf th_X0_set 36 6 = none := by refine ⟨?_, ?_, ?_, ?_, ?_, ?_, ?_, ?_, ?_, ?_, ?_, ?_, ?_, ?_, ?_, ?_, ?_, ?_, ?_, ?_, ?_, ?_, ?_, ?_⟩ <;> rfl
theorem jk_X0_set : ∀ q ∈ th_X0_set, jx_ct q.2.2.2 := by unfold th_X0_set; simp [jx_ct]
set_option maxHeartbeats 4000000 in
theorem jt_X0_set (l : Launch) : jx_Ct l yX0_set (wsW_ yX0_set cX0_set 6 (some .int) th_X0_set) 5 6 4000 js_X0_set := by
  refine jx_Ct_w (rc := 0) (by decide) rfl (fun D as g M Po hS => ?_)
  unfold js_X0_set at hS
  split at hS
  · rename_i n1 x n2 s n3 i n4 v
    obtain ⟨S, ⟨hR, hW, rs, ri⟩, hK⟩ := hS
    have hB := hW.1
    have h9 := hB.1
    have x0 := hR.1.1
    have hw := hW.2.2.2.2.2.1
    unfold f_set at hK
    simp only [rK_ite, mno] at hK
    refine ⟨Nat.le_of_ble_eq_true rfl, ?_⟩
    have wv := mm_why2_v (s := s) (i := i) hw
    have no : ∀ (m : Nat) (w : Int), mm_why2 S s i = w → w ≠ 0 → -11 ≤ w → w ≤ -1 → Po (0, 0, w) (g.1 + m, g.2) (xu_refuse M x w) := fun m w e1 e2 e3 e4 => by
      have hk := hK.2 (by omega)
      rw [e1] at hk
      exact rK_no h9.2 ⟨e3, e4⟩ (rR_g h9.2 hR rG_add) ⟨rG_add, fun _ _ _ => rfl⟩ hk
    refine jx_runL (o := jo_X0) (cs := cs_X0_set) (hf := jx_hf th_X0_set) jo_X0_ok hc_X0_set (jx_HK_LL rfl jk_X0_set) (fun p => p == 8) 60 ?_
    simp only [jw, ju, jx_tg, Int.cast_ofNat_Int, Int.reduceAdd, Int.reduceToNat, Nat.reduceAdd, Nat.reduceMul, Nat.reduceBEq, Nat.reduceLeDiff, Int.reduceLE, Int.reduceLT, Int.reduceEq, Int.reduceNeg, Int.reduceSub, Int.reduceMul, not_false_eq_true, true_and, and_true, and_self, Bool.or_false, Bool.false_or, Bool.or_true, Bool.true_or, List.length_nil, List.length_cons, Nat.zero_le, or_true, true_or, Nat.le_refl, ↓reduceIte, Nat.reduceEqDiff, forall_const, false_and, and_false, false_implies, implies_true, not_true_eq_false, or_false, false_or, ne_eq, jd_X0_set, jf_X0, show x + 3 + 2 + s = x + 5 + s by omega, js_X0_refuse, js_X1_longs, cs_X0_set, jx_ck_c, jh_X0_set, jx_ex]
    refine ⟨rs, fun c => no 3 _ (wv.1 c) (by decide) (by decide) (by decide), fun s0 s1 => ?_⟩
    have h1 := hR.2.2.2.2.2.2.1 s s0 s1
    have wv2 := wv.2 ⟨s0, s1⟩
    refine ⟨fun c => no 1 _ (wv2.1 ?_) (by decide) (by decide) (by decide), fun c => ?_⟩
    · apply Classical.byContradiction
      intro z
      have := (h1.2 z).1
      omega
    · have z : S 21 s ≠ 0 := fun z => by have := h1.1 z; omega
      have h2 := h1.2 z
      have wv3 := wv2.2 z
      by_cases d : S 22 s = 0
      · exact .inr ⟨_, h2.2.2 d, no 3 _ (wv3.1 d) (by decide) (by decide) (by decide)⟩
      · refine .inl ⟨_, (h2.2.1 d).1, ?_⟩
        by_cases ci : 0 ≤ i ∧ i < S 21 s
        · refine jx_runL (o := jo_X0) (cs := cs_X0_set) (hf := jx_hf th_X0_set) jo_X0_ok hc_X0_set (jx_HK_LL rfl jk_X0_set) (fun _ => false) 20 ?_
          simp only [jw, ju, jx_tg, Int.cast_ofNat_Int, Int.reduceAdd, Int.reduceToNat, Nat.reduceAdd, Nat.reduceMul, Nat.reduceBEq, Nat.reduceLeDiff, Int.reduceLE, Int.reduceLT, Int.reduceEq, Int.reduceNeg, Int.reduceSub, Int.reduceMul, not_false_eq_true, true_and, and_true, and_self, Bool.or_false, Bool.false_or, Bool.or_true, Bool.true_or, List.length_nil, List.length_cons, Nat.zero_le, or_true, true_or, Nat.le_refl, ↓reduceIte, Nat.reduceEqDiff, forall_const, false_and, and_false, false_implies, implies_true, not_true_eq_false, or_false, false_or, ne_eq, jd_X0_set, jf_X0, js_X0_refuse, js_X1_longs, cs_X0_set, jx_ck_c, jh_X0_set, jx_ex]
          refine ⟨ci, hK.1 ((wv3.2 d).1 ci) _ _ (rR_rows h9.2 hR (fun j h _ _ => jx_u_row h) (fun z k w => jx_u_a _ _ _ _ _ _ (by have := h2.1; unfold qSl at w; omega)) rG_rf (rSl_set hw x0 ⟨s0, s1⟩ z d ci hR.2.2.2.2.2.2)) (rFr_u rFr_rf (by have := h2.1; omega))⟩
        · refine jx_runL (o := jo_X0) (cs := cs_X0_set) (hf := jx_hf th_X0_set) jo_X0_ok hc_X0_set (jx_HK_LL rfl jk_X0_set) (fun p => p == 10) 20 ?_
          simp only [jw, ju, jx_tg, Int.cast_ofNat_Int, Int.reduceAdd, Int.reduceToNat, Nat.reduceAdd, Nat.reduceMul, Nat.reduceBEq, Nat.reduceLeDiff, Int.reduceLE, Int.reduceLT, Int.reduceEq, Int.reduceNeg, Int.reduceSub, Int.reduceMul, not_false_eq_true, true_and, and_true, and_self, Bool.or_false, Bool.false_or, Bool.or_true, Bool.true_or, List.length_nil, List.length_cons, Nat.zero_le, or_true, true_or, Nat.le_refl, ↓reduceIte, Nat.reduceEqDiff, forall_const, false_and, and_false, false_implies, implies_true, not_true_eq_false, or_false, false_or, ne_eq, jd_X0_set, jf_X0, js_X0_refuse, js_X1_longs, cs_X0_set, jx_ck_c, jh_X0_set, jx_ex]
          refine jx_s_msg (x := 3) (hf := jx_hf th_X0_set) (jx_HK_LL rfl jk_X0_set) jx_xg3 (jx_t_lastore (by decide +kernel) ri ci) (by decide) ⟨by decide, by decide⟩ ?_
          show jx_V D l (yX0_set.cls, cX0_set, 6, 0, th_X0_set, 5, 6, 4000, yX0_set.name) Po 31 _ [jx_ex 3 _] _ _ _
          refine jx_runL (o := jo_X0) (cs := cs_X0_set) (hf := jx_hf th_X0_set) jo_X0_ok hc_X0_set (jx_HK_LL rfl jk_X0_set) (fun _ => false) 20 ?_
          simp only [jw, ju, jx_tg, Int.cast_ofNat_Int, Int.reduceAdd, Int.reduceToNat, Nat.reduceAdd, Nat.reduceMul, Nat.reduceBEq, Nat.reduceLeDiff, Int.reduceLE, Int.reduceLT, Int.reduceEq, Int.reduceNeg, Int.reduceSub, Int.reduceMul, not_false_eq_true, true_and, and_true, and_self, Bool.or_false, Bool.false_or, Bool.or_true, Bool.true_or, List.length_nil, List.length_cons, Nat.zero_le, or_true, true_or, Nat.le_refl, ↓reduceIte, Nat.reduceEqDiff, forall_const, false_and, and_false, false_implies, implies_true, not_true_eq_false, or_false, false_or, ne_eq, jd_X0_set, jf_X0, js_X0_refuse, js_X1_longs, cs_X0_set, jx_ck_c, jh_X0_set, jx_ex]
          exact no 3 _ ((wv3.2 d).2 ci) (by decide) (by decide) (by decide)
  · exact hS.elim
def js_X0_get : jx_Sp := fun as g M Po => match as with
  | [(60, _, x), (0, _, s), (0, _, i)] => ∃ S, (rR x S g M ∧ mW S ∧ jx_r s ∧ jx_r i) ∧ rK x g M Po 1 (f_get s i S).1 (f_get s i S).2
  | _ => False
def cs_X0_get : jx_Cs := [(1332, 2, 3, 2000, js_X1_longs), (1161, 2, 0, 0, js_X0_refuse)]
theorem hc_X0_get {D : jx_D} {l : Launch} : jx_CsOK D l "LoopLane" 5 cs_X0_get := List.forall_mem_cons.mpr ⟨jc_X0_444 (jt_X1_longs l) (fun as g M Po (h : js_X1_longs as g M Po) => by unfold js_X1_longs at h; split at h <;> first | exact h.elim | exact ⟨_, _, _, rfl, rfl⟩) (by decide), List.forall_mem_cons.mpr ⟨jc_X0_387 (jt_X0_refuse l) (fun as g M Po (h : js_X0_refuse as g M Po) => by unfold js_X0_refuse at h; split at h <;> first | exact h.elim | exact ⟨_, _, _, rfl, rfl⟩) (by decide), fun _ h => absurd h List.not_mem_nil⟩⟩
abbrev th_X0_get : List (Nat × Nat × Nat × Nat) := [(0, 10, 11, 189), (0, 10, 22, 191), (0, 10, 33, 193)]
theorem jh_X0_get : jx_hf th_X0_get 5 1 = some 11 ∧ jx_hf th_X0_get 5 2 = some 22 ∧ jx_hf th_X0_get 5 3 = some 33 ∧ jx_hf th_X0_get 5 4 = none ∧ jx_hf th_X0_get 5 5 = none ∧ jx_hf th_X0_get 5 6 = none ∧ jx_hf th_X0_get 15 1 = none ∧ jx_hf th_X0_get 15 2 = none ∧ jx_hf th_X0_get 15 3 = none ∧ jx_hf th_X0_get 15 4 = none ∧ jx_hf th_X0_get 15 5 = none ∧ jx_hf th_X0_get 15 6 = none ∧ jx_hf th_X0_get 26 1 = none ∧ jx_hf th_X0_get 26 2 = none ∧ jx_hf th_X0_get 26 3 = none ∧ jx_hf th_X0_get 26 4 = none ∧ jx_hf th_X0_get 26 5 = none ∧ jx_hf th_X0_get 26 6 = none ∧ jx_hf th_X0_get 37 1 = none ∧ jx_hf th_X0_get 37 2 = none ∧ jx_hf th_X0_get 37 3 = none ∧ jx_hf th_X0_get 37 4 = none ∧ jx_hf th_X0_get 37 5 = none ∧ jx_hf th_X0_get 37 6 = none := by refine ⟨?_, ?_, ?_, ?_, ?_, ?_, ?_, ?_, ?_, ?_, ?_, ?_, ?_, ?_, ?_, ?_, ?_, ?_, ?_, ?_, ?_, ?_, ?_, ?_⟩ <;> rfl
theorem jk_X0_get : ∀ q ∈ th_X0_get, jx_ct q.2.2.2 := by unfold th_X0_get; simp [jx_ct]
set_option maxHeartbeats 4000000 in
theorem jt_X0_get (l : Launch) : jx_Ct l yX0_get (wsW_ yX0_get cX0_get 4 (some .long) th_X0_get) 5 6 4000 js_X0_get := by
  refine jx_Ct_w (rc := 1) (by decide) rfl (fun D as g M Po hS => ?_)
  unfold js_X0_get at hS
  split at hS
  · rename_i n1 x n2 s n3 i
    obtain ⟨S, ⟨hR, hW, rs, ri⟩, hK⟩ := hS
    have hB := hW.1
    have h9 := hB.1
    have x0 := hR.1.1
    have hw := hW.2.2.2.2.2.1
    unfold f_get at hK
    simp only [rK_ite, mno] at hK
    refine ⟨Nat.le_of_ble_eq_true rfl, ?_⟩
    have wv := mm_why2_v (s := s) (i := i) hw
    have no : ∀ (m : Nat) (w : Int), mm_why2 S s i = w → w ≠ 0 → -11 ≤ w → w ≤ -1 → Po (1, 0, 0) (g.1 + m, g.2) (xu_refuse M x w) := fun m w e1 e2 e3 e4 => by
      have hk := hK.2 (by omega)
      rw [e1] at hk
      exact rK_no h9.2 ⟨e3, e4⟩ (rR_g h9.2 hR rG_add) ⟨rG_add, fun _ _ _ => rfl⟩ hk
    refine jx_runL (o := jo_X0) (cs := cs_X0_get) (hf := jx_hf th_X0_get) jo_X0_ok hc_X0_get (jx_HK_LL rfl jk_X0_get) (fun p => p == 8) 60 ?_
    simp only [jw, ju, jx_tg, Int.cast_ofNat_Int, Int.reduceAdd, Int.reduceToNat, Nat.reduceAdd, Nat.reduceMul, Nat.reduceBEq, Nat.reduceLeDiff, Int.reduceLE, Int.reduceLT, Int.reduceEq, Int.reduceNeg, Int.reduceSub, Int.reduceMul, not_false_eq_true, true_and, and_true, and_self, Bool.or_false, Bool.false_or, Bool.or_true, Bool.true_or, List.length_nil, List.length_cons, Nat.zero_le, or_true, true_or, Nat.le_refl, ↓reduceIte, Nat.reduceEqDiff, forall_const, false_and, and_false, false_implies, implies_true, not_true_eq_false, or_false, false_or, ne_eq, jd_X0_get, jf_X0, show x + 3 + 2 + s = x + 5 + s by omega, js_X0_refuse, js_X1_longs, cs_X0_get, jx_ck_c, jh_X0_get, jx_ex]
    refine ⟨rs, fun c => no 3 _ (wv.1 c) (by decide) (by decide) (by decide), fun s0 s1 => ?_⟩
    have h1 := hR.2.2.2.2.2.2.1 s s0 s1
    have wv2 := wv.2 ⟨s0, s1⟩
    refine ⟨fun c => no 1 _ (wv2.1 ?_) (by decide) (by decide) (by decide), fun c => ?_⟩
    · apply Classical.byContradiction
      intro z
      have := (h1.2 z).1
      omega
    · have z : S 21 s ≠ 0 := fun z => by have := h1.1 z; omega
      have h2 := h1.2 z
      have wv3 := wv2.2 z
      by_cases d : S 22 s = 0
      · exact .inr ⟨_, h2.2.2 d, no 3 _ (wv3.1 d) (by decide) (by decide) (by decide)⟩
      · refine .inl ⟨_, (h2.2.1 d).1, ?_⟩
        by_cases ci : 0 ≤ i ∧ i < S 21 s
        · refine jx_runL (o := jo_X0) (cs := cs_X0_get) (hf := jx_hf th_X0_get) jo_X0_ok hc_X0_get (jx_HK_LL rfl jk_X0_get) (fun _ => false) 20 ?_
          simp only [jw, ju, jx_tg, Int.cast_ofNat_Int, Int.reduceAdd, Int.reduceToNat, Nat.reduceAdd, Nat.reduceMul, Nat.reduceBEq, Nat.reduceLeDiff, Int.reduceLE, Int.reduceLT, Int.reduceEq, Int.reduceNeg, Int.reduceSub, Int.reduceMul, not_false_eq_true, true_and, and_true, and_self, Bool.or_false, Bool.false_or, Bool.or_true, Bool.true_or, List.length_nil, List.length_cons, Nat.zero_le, or_true, true_or, Nat.le_refl, ↓reduceIte, Nat.reduceEqDiff, forall_const, false_and, and_false, false_implies, implies_true, not_true_eq_false, or_false, false_or, ne_eq, jd_X0_get, jf_X0, (h2.2.1 d).2 i ci.1 ci.2, js_X0_refuse, js_X1_longs, cs_X0_get, jx_ck_c, jh_X0_get, jx_ex]
          exact ⟨ci, rK_s hR (hK.1 ((wv3.2 d).1 ci))⟩
        · refine jx_runL (o := jo_X0) (cs := cs_X0_get) (hf := jx_hf th_X0_get) jo_X0_ok hc_X0_get (jx_HK_LL rfl jk_X0_get) (fun p => p == 9) 20 ?_
          simp only [jw, ju, jx_tg, Int.cast_ofNat_Int, Int.reduceAdd, Int.reduceToNat, Nat.reduceAdd, Nat.reduceMul, Nat.reduceBEq, Nat.reduceLeDiff, Int.reduceLE, Int.reduceLT, Int.reduceEq, Int.reduceNeg, Int.reduceSub, Int.reduceMul, not_false_eq_true, true_and, and_true, and_self, Bool.or_false, Bool.false_or, Bool.or_true, Bool.true_or, List.length_nil, List.length_cons, Nat.zero_le, or_true, true_or, Nat.le_refl, ↓reduceIte, Nat.reduceEqDiff, forall_const, false_and, and_false, false_implies, implies_true, not_true_eq_false, or_false, false_or, ne_eq, jd_X0_get, jf_X0, js_X0_refuse, js_X1_longs, cs_X0_get, jx_ck_c, jh_X0_get, jx_ex]
          refine jx_s_msg (x := 3) (hf := jx_hf th_X0_get) (jx_HK_LL rfl jk_X0_get) jx_xg3 (jx_t_laload (by decide +kernel) ri ci) (by decide) ⟨by decide, by decide⟩ ?_
          show jx_V D l (yX0_get.cls, cX0_get, 4, 1, th_X0_get, 5, 6, 4000, yX0_get.name) Po 33 _ [jx_ex 3 _] _ _ _
          refine jx_runL (o := jo_X0) (cs := cs_X0_get) (hf := jx_hf th_X0_get) jo_X0_ok hc_X0_get (jx_HK_LL rfl jk_X0_get) (fun _ => false) 20 ?_
          simp only [jw, ju, jx_tg, Int.cast_ofNat_Int, Int.reduceAdd, Int.reduceToNat, Nat.reduceAdd, Nat.reduceMul, Nat.reduceBEq, Nat.reduceLeDiff, Int.reduceLE, Int.reduceLT, Int.reduceEq, Int.reduceNeg, Int.reduceSub, Int.reduceMul, not_false_eq_true, true_and, and_true, and_self, Bool.or_false, Bool.false_or, Bool.or_true, Bool.true_or, List.length_nil, List.length_cons, Nat.zero_le, or_true, true_or, Nat.le_refl, ↓reduceIte, Nat.reduceEqDiff, forall_const, false_and, and_false, false_implies, implies_true, not_true_eq_false, or_false, false_or, ne_eq, jd_X0_get, jf_X0, js_X0_refuse, js_X1_longs, cs_X0_get, jx_ck_c, jh_X0_get, jx_ex]
          exact no 3 _ ((wv3.2 d).2 ci) (by decide) (by decide) (by decide)
  · exact hS.elim
theorem mm_zero_v {S : jx_M} {p : Int} : ∀ n : Nat, (∀ j k, j ≠ 19 → mm_zero S p n j k = S j k) ∧ (∀ k, mm_zero S p n 19 k = if p ≤ k ∧ k < p + n then 0 else S 19 k)
  | 0 => ⟨fun _ _ _ => rfl, fun k => by
    rw [if_neg (by omega)]
    rfl⟩
  | n + 1 => by
    obtain ⟨h1, h2⟩ := mm_zero_v (S := S) (p := p) n
    refine ⟨fun j k h => ?_, fun k => ?_⟩
    · show jx_u (mm_zero S p n) 19 (p + n) 0 j k = _
      rw [jx_u_a _ _ _ _ _ _ h]; exact h1 j k h
    · show jx_u (mm_zero S p n) 19 (p + n) 0 19 k = _
      by_cases c : k = p + n
      · rw [c, jx_u_eq, if_pos (by omega)]
      · rw [jx_u_j _ _ _ _ _ _ c, h2 k]
        by_cases d : p ≤ k ∧ k < p + n
        · rw [if_pos d, if_pos (by omega)]
        · rw [if_neg d, if_neg (by omega)]
/-- a row is laid into a slot -/
theorem rSl_row {x s n w : Int} {S S' : jx_M} {g : jx_S} {M : jx_M} {k : Nat} (hr : mm_rows S) (hg : x + 430 ≤ (g.1 : Int)) (hs : 0 ≤ s ∧ s < 8) (hn : 1 ≤ n ∧ n ≤ 40) (hw : (w = 1 ∧ k = 11) ∨ (w = 0 ∧ k = 10)) (hS : S' = mm_zero (jx_u (jx_u S 21 s n) 22 s w) (40 * s) n.toNat) (h : rSl x S g M) : rSl x S' (jx_gp g k n) (jx_u (jx_fr M g.1 k) (x + 5 + s) 0 g.1) := by
  obtain ⟨v1, v2⟩ := mm_zero_v (S := jx_u (jx_u S 21 s n) 22 s w) (p := 40 * s) n.toNat
  rw [← hS] at v1 v2
  have e21 : ∀ t, S' 21 t = jx_u S 21 s n 21 t := fun t => by rw [v1 21 t (by decide), jx_u_a _ _ _ _ _ _ (by decide)]
  have e22 : ∀ t, S' 22 t = jx_u S 22 s w 22 t := fun t => by
    rw [v1 22 t (by decide)]
    unfold jx_u
    split
    · rfl
    · rw [if_neg (by omega)]
  have fr : ∀ z i, z ≠ (g.1 : Int) → jx_fr M g.1 k z i = M z i := fun z i hz => if_neg hz
  have f0 : ∀ i, jx_fr M g.1 k (g.1 : Int) i = 0 := fun i => by
    unfold jx_fr jx_df
    rw [if_pos rfl]
    rcases hw with ⟨-, rfl⟩ | ⟨-, rfl⟩ <;> rfl
  have gp : ∀ z, z ≠ (g.1 : Int) → (jx_gp g k n).2 z = g.2 z := fun z hz => if_neg hz
  have gp0 : (jx_gp g k n).2 (g.1 : Int) = (k, n) := if_pos rfl
  have g1 : ((jx_gp g k n).1 : Int) = (g.1 : Int) + 1 := by show ((g.1 + 1 : Nat) : Int) = _; omega
  refine ⟨fun t t0 t1 => ?_, fun t u t0 t1 u0 u1 hn' c1 c2 => ?_⟩
  · unfold rS1
    rw [e21, e22, g1]
    by_cases c : t = s
    · rw [c, jx_u_eq, jx_u_eq, jx_u_eq, gp0]
      refine ⟨fun z => by omega, fun _ => ⟨by omega, fun z => ?_, fun z => ?_⟩⟩
      · have kk : k = 11 := by omega
        rw [kk]
        refine ⟨rfl, fun i i0 i1 => ?_⟩
        rw [v2, if_pos (by omega), jx_u_a _ _ _ _ _ _ (by omega), ← kk, f0]
      · have kk : k = 10 := by omega
        rw [kk]
    · have ht := h.1 t t0 t1
      unfold rS1 at ht
      rw [jx_u_j _ _ _ _ _ _ c, jx_u_j _ _ _ _ _ _ c, jx_u_a _ _ _ _ _ _ (by omega), fr _ _ (by omega)]
      refine ⟨ht.1, fun z => ?_⟩
      have h2 := ht.2 z
      rw [gp _ (by omega)]
      refine ⟨by omega, fun d => ⟨(h2.2.1 d).1, fun i i0 i1 => ?_⟩, h2.2.2⟩
      have hrt := hr t t0 t1
      rw [jx_u_a _ _ _ _ _ _ (by omega), fr _ _ (by omega), v2, if_neg (by omega), jx_u_a _ _ _ _ _ _ (by decide), jx_u_a _ _ _ _ _ _ (by decide)]
      exact (h2.2.1 d).2 i i0 i1
  · rw [e21] at c1 c2
    by_cases ct : t = s
    · have cu : u ≠ s := by omega
      rw [jx_u_j _ _ _ _ _ _ cu] at c2
      have := ((h.1 u u0 u1).2 c2).1
      rw [ct, jx_u_eq, jx_u_a _ _ _ _ _ _ (by omega), fr _ _ (by omega)]
      omega
    · rw [jx_u_j _ _ _ _ _ _ ct] at c1
      have h1 := ((h.1 t t0 t1).2 c1).1
      by_cases cu : u = s
      · rw [cu, jx_u_eq, jx_u_a _ _ _ _ _ _ (by omega), fr _ _ (by omega)]
        omega
      · rw [jx_u_j _ _ _ _ _ _ cu] at c2
        rw [jx_u_a _ _ _ _ _ _ (by omega), jx_u_a _ _ _ _ _ _ (by omega), fr _ _ (by omega), fr _ _ (by omega)]
        exact h.2 t u t0 t1 u0 u1 hn' c1 c2
def js_X0_row : jx_Sp := fun as g M Po => match as with
  | [(60, _, x), (0, _, s), (0, _, n), (0, _, w)] => ∃ S, (rR x S g M ∧ mW S ∧ (jx_r s ∧ jx_r n ∧ (w = 0 ∨ w = 1))) ∧ rK x g M Po 0 (f_row s n w S).1 (f_row s n w S).2
  | _ => False
def cs_X0_row : jx_Cs := [(1135, 3, 0, 0, js_X0_isIn), (789, 3, 0, 0, js_X0_need), (1161, 2, 0, 0, js_X0_refuse)]
theorem hc_X0_row {D : jx_D} {l : Launch} : jx_CsOK D l "LoopLane" 5 cs_X0_row := List.forall_mem_cons.mpr ⟨jc_X0_378 (jt_X0_isIn l) (fun as g M Po (h : js_X0_isIn as g M Po) => by unfold js_X0_isIn at h; split at h <;> first | exact h.elim | exact rfl) (by decide), List.forall_mem_cons.mpr ⟨jc_X0_263 (jt_X0_need l) (fun as g M Po (h : js_X0_need as g M Po) => by unfold js_X0_need at h; split at h <;> first | exact h.elim | exact ⟨_, _, _, rfl, rfl⟩) (by decide), List.forall_mem_cons.mpr ⟨jc_X0_387 (jt_X0_refuse l) (fun as g M Po (h : js_X0_refuse as g M Po) => by unfold js_X0_refuse at h; split at h <;> first | exact h.elim | exact ⟨_, _, _, rfl, rfl⟩) (by decide), fun _ h => absurd h List.not_mem_nil⟩⟩⟩
abbrev th_X0_row : List (Nat × Nat × Nat × Nat) := [(19, 78, 79, 442), (19, 78, 88, 315)]
theorem jh_X0_row : jx_hf th_X0_row 6 1 = none ∧ jx_hf th_X0_row 6 2 = none ∧ jx_hf th_X0_row 6 3 = none ∧ jx_hf th_X0_row 6 4 = none ∧ jx_hf th_X0_row 6 5 = none ∧ jx_hf th_X0_row 6 6 = none ∧ jx_hf th_X0_row 15 1 = none ∧ jx_hf th_X0_row 15 2 = none ∧ jx_hf th_X0_row 15 3 = none ∧ jx_hf th_X0_row 15 4 = none ∧ jx_hf th_X0_row 15 5 = none ∧ jx_hf th_X0_row 15 6 = none ∧ jx_hf th_X0_row 37 1 = none ∧ jx_hf th_X0_row 37 2 = none ∧ jx_hf th_X0_row 37 3 = none ∧ jx_hf th_X0_row 37 4 = none ∧ jx_hf th_X0_row 37 5 = some 79 ∧ jx_hf th_X0_row 37 6 = some 88 ∧ jx_hf th_X0_row 84 1 = none ∧ jx_hf th_X0_row 84 2 = none ∧ jx_hf th_X0_row 84 3 = none ∧ jx_hf th_X0_row 84 4 = none ∧ jx_hf th_X0_row 84 5 = none ∧ jx_hf th_X0_row 84 6 = none ∧ jx_hf th_X0_row 96 1 = none ∧ jx_hf th_X0_row 96 2 = none ∧ jx_hf th_X0_row 96 3 = none ∧ jx_hf th_X0_row 96 4 = none ∧ jx_hf th_X0_row 96 5 = none ∧ jx_hf th_X0_row 96 6 = none := by refine ⟨?_, ?_, ?_, ?_, ?_, ?_, ?_, ?_, ?_, ?_, ?_, ?_, ?_, ?_, ?_, ?_, ?_, ?_, ?_, ?_, ?_, ?_, ?_, ?_, ?_, ?_, ?_, ?_, ?_, ?_⟩ <;> rfl
theorem jk_X0_row : ∀ q ∈ th_X0_row, jx_ct q.2.2.2 := by unfold th_X0_row; simp [jx_ct]
set_option maxHeartbeats 4000000 in
theorem jt_X0_row (l : Launch) : jx_Ct l yX0_row (wsW_ yX0_row cX0_row 5 (some .int) th_X0_row) 5 4 2100 js_X0_row := by
  refine jx_Ct_w (rc := 0) (by decide) rfl (fun D as g M Po hS => ?_)
  unfold js_X0_row at hS
  split at hS
  · rename_i n1 x n2 s n3 n n4 w
    obtain ⟨S, ⟨hR, hW, rs, rn, rw_⟩, hK⟩ := hS
    have hB := hW.1
    have h9 := hB.1
    have x0 := hR.1.1
    unfold f_row at hK
    simp only [rK_ite, mno] at hK
    refine ⟨Nat.le_of_ble_eq_true rfl, ?_⟩
    have at88 : jx_V D l (yX0_row.cls, cX0_row, 5, 0, th_X0_row, 5, 4, 2100, yX0_row.name) Po 88 [(60, n1, x), (0, n2, s), (0, n3, n), (0, n4, w), (5, 0, 0)] [(64, 0, x + 49 - -9)] (0, 0) g M ∨ ¬ ((0 ≤ s ∧ s < 8) ∧ 0 ≤ n ∧ ¬ (1 ≤ n ∧ n ≤ 40)) := by
      by_cases c : (0 ≤ s ∧ s < 8) ∧ 0 ≤ n ∧ ¬ (1 ≤ n ∧ n ≤ 40)
      · refine .inl ?_
        have e6 := hR.2.2.2.2.2.1.2.2.2.2 9 (by decide) (by decide)
        rw [show x + 49 + 9 = x + 49 - -9 by omega] at e6
        refine jx_runL (o := jo_X0) (cs := cs_X0_row) (hf := jx_hf th_X0_row) jo_X0_ok hc_X0_row (jx_HK_LL rfl jk_X0_row) (fun _ => false) 20 ?_
        simp only [jw, ju, jx_tg, Int.cast_ofNat_Int, Int.reduceAdd, Int.reduceToNat, Nat.reduceAdd, Nat.reduceMul, Nat.reduceBEq, Nat.reduceLeDiff, Int.reduceLE, Int.reduceLT, Int.reduceEq, Int.reduceNeg, Int.reduceSub, Int.reduceMul, not_false_eq_true, true_and, and_true, and_self, Bool.or_false, Bool.false_or, Bool.or_true, Bool.true_or, List.length_nil, List.length_cons, Nat.zero_le, or_true, true_or, Nat.le_refl, ↓reduceIte, Nat.reduceEqDiff, forall_const, false_and, and_false, false_implies, implies_true, not_true_eq_false, or_false, false_or, ne_eq, jd_X0_row, jf_X0, e6, js_X0_isIn, js_X0_need, js_X0_refuse, cs_X0_row, jx_ck_c, jh_X0_row, jx_ex]
        exact rK_no h9.2 (by decide) hR rFr_rf (((hK.1 c.1).2 (by omega)).2 c.2.2)
      · exact .inr c
    have neg : (0 ≤ s ∧ s < 8) → n < 0 → ∀ P4 : jx_A, jx_V D l (yX0_row.cls, cX0_row, 5, 0, th_X0_row, 5, 4, 2100, yX0_row.name) Po 79 [(60, n1, x), (0, n2, s), (0, n3, n), (0, n4, w), P4] [jx_ex 5 ((g.1 : Int) + 2)] (3, 2000) (g.1 + 3, g.2) M := by
      intro c c2 P4
      refine jx_runL (o := jo_X0) (cs := cs_X0_row) (hf := jx_hf th_X0_row) jo_X0_ok hc_X0_row (jx_HK_LL rfl jk_X0_row) (fun _ => false) 20 ?_
      simp only [jw, ju, jx_tg, Int.cast_ofNat_Int, Int.reduceAdd, Int.reduceToNat, Nat.reduceAdd, Nat.reduceMul, Nat.reduceBEq, Nat.reduceLeDiff, Int.reduceLE, Int.reduceLT, Int.reduceEq, Int.reduceNeg, Int.reduceSub, Int.reduceMul, not_false_eq_true, true_and, and_true, and_self, Bool.or_false, Bool.false_or, Bool.or_true, Bool.true_or, List.length_nil, List.length_cons, Nat.zero_le, or_true, true_or, Nat.le_refl, ↓reduceIte, Nat.reduceEqDiff, forall_const, false_and, and_false, false_implies, implies_true, not_true_eq_false, or_false, false_or, ne_eq, jd_X0_row, jf_X0, js_X0_isIn, js_X0_need, js_X0_refuse, cs_X0_row, jx_ck_c, jh_X0_row, jx_ex]
      exact rK_no h9.2 (by decide) (rR_g h9.2 hR rG_add) ⟨rG_add, fun _ _ _ => rfl⟩ ((hK.1 c).1 c2)
    have fin : ∀ (k : Nat), (0 ≤ s ∧ s < 8) → (1 ≤ n ∧ n ≤ 40) → (w = 1 ∧ k = 11) ∨ (w = 0 ∧ k = 10) → Po (0, 0, 1) (jx_gp g k n) (jx_u (jx_fr M g.1 k) (x + 5 + s) 0 g.1) := by
      intro k c c2 hk
      have gg : rG g (jx_gp g k n) := ⟨Nat.le_succ _, fun z hz => if_neg (by omega)⟩
      have hg := hR.1.2.1.1
      obtain ⟨v1, v2⟩ := mm_zero_v (S := jx_u (jx_u S 21 s n) 22 s w) (p := 40 * s) n.toNat
      have hk2 := ((hK.1 c).2 (by omega)).1 c2
      refine hk2 _ _ (rR_rows h9.2 hR (fun j a1 a2 a3 => ?_) (fun z i q => ?_) gg (rSl_row hW.2.2.2.2.2.1 hg c c2 hk rfl hR.2.2.2.2.2.2)) ⟨gg, fun z i q => ?_⟩
      · funext i
        rw [v1 j i a1, jx_u_a _ _ _ _ _ _ a3, jx_u_a _ _ _ _ _ _ a2]
      · rw [jx_u_a _ _ _ _ _ _ (by unfold qSl at q; omega)]
        exact if_neg (by unfold qSl at q; omega)
      · rw [jx_u_a _ _ _ _ _ _ (by omega)]
        exact if_neg (by omega)
    refine jx_runL (o := jo_X0) (cs := cs_X0_row) (hf := jx_hf th_X0_row) jo_X0_ok hc_X0_row (jx_HK_LL rfl jk_X0_row) (fun p => p == 40 || p == 54 || p == 72 || p == 88) 60 ?_
    simp only [jw, ju, jx_tg, Int.cast_ofNat_Int, Int.reduceAdd, Int.reduceToNat, Nat.reduceAdd, Nat.reduceMul, Nat.reduceBEq, Nat.reduceLeDiff, Int.reduceLE, Int.reduceLT, Int.reduceEq, Int.reduceNeg, Int.reduceSub, Int.reduceMul, not_false_eq_true, true_and, and_true, and_self, Bool.or_false, Bool.false_or, Bool.or_true, Bool.true_or, List.length_nil, List.length_cons, Nat.zero_le, or_true, true_or, Nat.le_refl, ↓reduceIte, Nat.reduceEqDiff, forall_const, false_and, and_false, false_implies, implies_true, not_true_eq_false, or_false, false_or, ne_eq, jd_X0_row, jf_X0, js_X0_isIn, js_X0_need, js_X0_refuse, cs_X0_row, jx_ck_c, jh_X0_row, jx_ex]
    refine ⟨rs, fun c => ⟨rn, fun c2 => ⟨by decide, at88.resolve_right (fun z => z (by omega))⟩, fun c2 => ⟨rn, fun c3 => ⟨by decide, at88.resolve_right (fun z => z (by omega))⟩, fun c3 => ⟨by decide, ?_⟩⟩⟩, fun c => rK_no h9.2 (by decide) hR rFr_rf (hK.2 (by omega))⟩
    rcases rw_ with rfl | rfl
    · refine jx_runL (o := jo_X0) (cs := cs_X0_row) (hf := jx_hf th_X0_row) jo_X0_ok hc_X0_row (jx_HK_LL rfl jk_X0_row) (fun p => p == 72) 30 ?_
      simp only [jw, ju, jx_tg, Int.cast_ofNat_Int, Int.reduceAdd, Int.reduceToNat, Nat.reduceAdd, Nat.reduceMul, Nat.reduceBEq, Nat.reduceLeDiff, Int.reduceLE, Int.reduceLT, Int.reduceEq, Int.reduceNeg, Int.reduceSub, Int.reduceMul, not_false_eq_true, true_and, and_true, and_self, Bool.or_false, Bool.false_or, Bool.or_true, Bool.true_or, List.length_nil, List.length_cons, Nat.zero_le, or_true, true_or, Nat.le_refl, ↓reduceIte, Nat.reduceEqDiff, forall_const, false_and, and_false, false_implies, implies_true, not_true_eq_false, or_false, false_or, ne_eq, jd_X0_row, jf_X0, js_X0_isIn, js_X0_need, js_X0_refuse, cs_X0_row, jx_ck_c, jh_X0_row, jx_ex]
      refine ⟨by omega, ?_⟩
      by_cases c4 : n < 0
      · refine jx_s_msg (x := 5) (hf := jx_hf th_X0_row) (jx_HK_LL rfl jk_X0_row) jx_xg5 (jx_t_newarr (aty := .int) (by decide +kernel) rn c4) (by simp) ⟨by decide, by decide⟩ ?_
        exact neg (by omega) c4 _
      · refine jx_s_newarray (k := 10) (.inl ⟨rfl, rfl⟩) (by decide +kernel) (by omega) ⟨by decide, by show 0 + n.toNat ≤ 2100; omega⟩ ?_
        refine jx_runL (o := jo_X0) (cs := cs_X0_row) (hf := jx_hf th_X0_row) jo_X0_ok hc_X0_row (jx_HK_LL rfl jk_X0_row) (fun _ => false) 30 ?_
        simp only [jw, ju, jx_tg, Int.cast_ofNat_Int, Int.reduceAdd, Int.reduceToNat, Nat.reduceAdd, Nat.reduceMul, Nat.reduceBEq, Nat.reduceLeDiff, Int.reduceLE, Int.reduceLT, Int.reduceEq, Int.reduceNeg, Int.reduceSub, Int.reduceMul, not_false_eq_true, true_and, and_true, and_self, Bool.or_false, Bool.false_or, Bool.or_true, Bool.true_or, List.length_nil, List.length_cons, Nat.zero_le, or_true, true_or, Nat.le_refl, ↓reduceIte, Nat.reduceEqDiff, forall_const, false_and, and_false, false_implies, implies_true, not_true_eq_false, or_false, false_or, ne_eq, jd_X0_row, jf_X0, show x + 3 + 1 + (1 + s) = x + 5 + s by omega, js_X0_isIn, js_X0_need, js_X0_refuse, cs_X0_row, jx_ck_c, jh_X0_row, jx_ex]
        exact fin 10 (by omega) (by omega) (.inr ⟨rfl, rfl⟩)
    · refine jx_runL (o := jo_X0) (cs := cs_X0_row) (hf := jx_hf th_X0_row) jo_X0_ok hc_X0_row (jx_HK_LL rfl jk_X0_row) (fun p => p == 54) 30 ?_
      simp only [jw, ju, jx_tg, Int.cast_ofNat_Int, Int.reduceAdd, Int.reduceToNat, Nat.reduceAdd, Nat.reduceMul, Nat.reduceBEq, Nat.reduceLeDiff, Int.reduceLE, Int.reduceLT, Int.reduceEq, Int.reduceNeg, Int.reduceSub, Int.reduceMul, not_false_eq_true, true_and, and_true, and_self, Bool.or_false, Bool.false_or, Bool.or_true, Bool.true_or, List.length_nil, List.length_cons, Nat.zero_le, or_true, true_or, Nat.le_refl, ↓reduceIte, Nat.reduceEqDiff, forall_const, false_and, and_false, false_implies, implies_true, not_true_eq_false, or_false, false_or, ne_eq, jd_X0_row, jf_X0, js_X0_isIn, js_X0_need, js_X0_refuse, cs_X0_row, jx_ck_c, jh_X0_row, jx_ex]
      refine ⟨by omega, ?_⟩
      by_cases c4 : n < 0
      · refine jx_s_msg (x := 5) (hf := jx_hf th_X0_row) (jx_HK_LL rfl jk_X0_row) jx_xg5 (jx_t_newarr (aty := .long) (by decide +kernel) rn c4) (by simp) ⟨by decide, by decide⟩ ?_
        exact neg (by omega) c4 _
      · refine jx_s_newarray (k := 11) (.inr (.inl ⟨rfl, rfl⟩)) (by decide +kernel) (by omega) ⟨by decide, by show 0 + n.toNat ≤ 2100; omega⟩ ?_
        refine jx_runL (o := jo_X0) (cs := cs_X0_row) (hf := jx_hf th_X0_row) jo_X0_ok hc_X0_row (jx_HK_LL rfl jk_X0_row) (fun _ => false) 30 ?_
        simp only [jw, ju, jx_tg, Int.cast_ofNat_Int, Int.reduceAdd, Int.reduceToNat, Nat.reduceAdd, Nat.reduceMul, Nat.reduceBEq, Nat.reduceLeDiff, Int.reduceLE, Int.reduceLT, Int.reduceEq, Int.reduceNeg, Int.reduceSub, Int.reduceMul, not_false_eq_true, true_and, and_true, and_self, Bool.or_false, Bool.false_or, Bool.or_true, Bool.true_or, List.length_nil, List.length_cons, Nat.zero_le, or_true, true_or, Nat.le_refl, ↓reduceIte, Nat.reduceEqDiff, forall_const, false_and, and_false, false_implies, implies_true, not_true_eq_false, or_false, false_or, ne_eq, jd_X0_row, jf_X0, show x + 3 + 1 + (1 + s) = x + 5 + s by omega, js_X0_isIn, js_X0_need, js_X0_refuse, cs_X0_row, jx_ck_c, jh_X0_row, jx_ex]
        exact fin 11 (by omega) (by omega) (.inl ⟨rfl, rfl⟩)
  · exact hS.elim
