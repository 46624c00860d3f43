/-! LoopLane: runLaid -/
set_option maxRecDepth 100000
theorem ml_go_end {e now a lim : Int} {Q : jx_M} {f : Nat} (h : e < now) : ml_go e f now a lim Q = Q := by
  match f with
  | 0 => rfl
  | f + 1 => rw [ml_go.eq_def]; dsimp only; rw [if_pos h]
theorem ml_go_row {e now a lim : Int} {Q : jx_M} {f : Nat} (h : ¬ e < now) (h2 : Q 0 9 ≤ a) : ml_go e (f + 1) now a lim Q = ml_go e f (now + 1) 0 lim Q := by
  rw [ml_go.eq_def]; dsimp only; rw [if_neg h, if_pos h2]
theorem ml_go_sk {e now a lim : Int} {Q : jx_M} {f : Nat} (h : ¬ e < now) (h2 : ¬ Q 0 9 ≤ a) (h3 : ml_sk Q now a lim) : ml_go e (f + 1) now a lim Q = ml_go e f now (a + 1) lim Q := by
  rw [ml_go.eq_def]; dsimp only; rw [if_neg h, if_neg h2, if_pos h3]
theorem ml_go_ok {e now a lim : Int} {Q : jx_M} {f : Nat} (h : ¬ e < now) (h2 : ¬ Q 0 9 ≤ a) (h3 : ¬ ml_sk Q now a lim) (h4 : mm_dwhy (ml_S1 Q now) a (ml_t Q now a) = 0) : ml_go e (f + 1) now a lim Q = ml_go e f now (a + 1) lim (mm_dput (ml_S1 Q now) a (ml_t Q now a)) := by
  rw [ml_go.eq_def]; dsimp only; rw [if_neg h, if_neg h2, if_neg h3, mm_does_0 h4, if_pos rfl]
theorem ml_go_no {e now a lim : Int} {Q : jx_M} {f : Nat} (h : ¬ e < now) (h2 : ¬ Q 0 9 ≤ a) (h3 : ¬ ml_sk Q now a lim) (h4 : mm_dwhy (ml_S1 Q now) a (ml_t Q now a) ≠ 0) : ml_go e (f + 1) now a lim Q = ml_go e f now (a + 1) (16 * ml_t Q now a + a) (jx_u (jx_u (jx_u (ml_S1 Q now) 0 38 (mm_dwhy (ml_S1 Q now) a (ml_t Q now a))) 0 39 a) 0 40 (ml_t Q now a)) := by
  rw [ml_go.eq_def]; dsimp only; rw [if_neg h, if_neg h2, if_neg h3, mm_does_n h4, if_neg h4]
theorem xI_m {x r lb z k v : Int} {S : jx_M} {g : jx_S} {M Q M' : jx_M} (hr : xr3 x r) (hz : x + 43 ≤ z ∧ z ≤ x + 46) (h : xI x r lb S g M Q M') : xI x r lb S g M Q (jx_u M' z k v) := by
  obtain ⟨h1, h2, h3, h4, h5⟩ := h
  unfold xr3 at hr
  refine ⟨h1, fun w i a b c d => ?_, rSl_c h3 (fun w i q => jx_u_a _ _ _ _ _ _ (by unfold qSl at q; omega)), ?_, fun i i0 i1 i5 => ?_⟩
  · rw [jx_u_a _ _ _ _ _ _ (by omega)]; exact h2 w i a b c d
  · rw [jx_u_a _ _ _ _ _ _ (by omega)]; exact h4
  · rw [jx_u_a _ _ _ _ _ _ (by omega)]; exact h5 i i0 i1 i5
def xLm (Q : jx_M) (n lim : Int) : Prop := (-8 ≤ Q 0 38 ∧ Q 0 38 ≤ 0) ∧ (Q 0 38 = 0 → lim = 16 * n ∧ Q 0 39 = -1 ∧ Q 0 40 = -1) ∧ (Q 0 38 ≠ 0 → lim = 16 * Q 0 40 + Q 0 39 ∧ (0 ≤ Q 0 39 ∧ Q 0 39 < 16) ∧ (0 ≤ Q 0 40 ∧ Q 0 40 < n))
def xNm (x : Int) (S M' : jx_M) (m : Int) : Prop := ∀ k, 0 ≤ k → k < m → M' (x + 45) k = mm_places S k ∧ M' (x + 46) k = S 26 k
def js_X0_runLaid : jx_Sp := fun as g M Po => match as with
  | [(60, _, x), (63, _, r), (0, _, n)] => ∃ S, (xB x S g M ∧ rSl x S g M ∧ rLd x S M ∧ mW S ∧ mV S ∧ S 0 27 ≠ 0 ∧ xr3 x r ∧ (1 ≤ n ∧ n ≤ 200) ∧ xZ S) ∧ ∀ g' M', xE x r 1 S g M (mu_laid n S) g' M' → Po (3, 0, 0) g' M'
  | _ => False
def cs_X0_runLaidN : jx_Cs := [(516, 1, 0, 0, js_X3_clear), (702, 2, 0, 0, js_X0_namesOf), (723, 2, 0, 0, js_X0_begin), (319, 2, 0, 0, js_J10_max), (732, 4, 0, 0, js_X0_named), (630, 6, 3, 2000, js_X0_workN)]
theorem hc_X0_runLaidN {D : jx_D} {l : Launch} : jx_CsOK D l "LoopLane" 4 cs_X0_runLaidN := List.forall_mem_cons.mpr ⟨jc_X0_172 (jt_X3_clear l) (fun as g M Po (h : js_X3_clear as g M Po) => by unfold js_X3_clear at h; split at h <;> first | exact h.elim | exact ⟨_, _, _, rfl, rfl⟩) (by decide), List.forall_mem_cons.mpr ⟨jc_X0_234 (jt_X0_namesOf l) (fun as g M Po (h : js_X0_namesOf as g M Po) => by unfold js_X0_namesOf at h; split at h <;> first | exact h.elim | exact ⟨_, _, _, rfl, rfl⟩) (by decide), List.forall_mem_cons.mpr ⟨jc_X0_241 (jt_X0_begin l) (fun as g M Po (h : js_X0_begin as g M Po) => by unfold js_X0_begin at h; split at h <;> first | exact h.elim | exact ⟨_, _, _, rfl, rfl⟩) (by decide), List.forall_mem_cons.mpr ⟨jx_CS_max q910, List.forall_mem_cons.mpr ⟨jc_X0_244 (jt_X0_named l) (fun as g M Po (h : js_X0_named as g M Po) => by unfold js_X0_named at h; split at h <;> first | exact h.elim | exact ⟨_, _, _, rfl, rfl⟩) (by decide), List.forall_mem_cons.mpr ⟨jc_X0_210 (jt_X0_workN l) (fun as g M Po (h : js_X0_workN as g M Po) => by unfold js_X0_workN at h; split at h <;> first | exact h.elim | exact ⟨_, _, _, rfl, rfl⟩) (by decide), fun _ h => absurd h List.not_mem_nil⟩⟩⟩⟩⟩⟩
def cs_X0_runLaid : jx_Cs := [(516, 1, 0, 0, js_X3_clear), (702, 2, 0, 0, js_X0_namesOf), (723, 2, 0, 0, js_X0_begin), (319, 2, 0, 0, js_J10_max), (732, 4, 0, 0, js_X0_named), (630, 6, 0, 0, js_X0_workY)]
theorem hc_X0_runLaid {D : jx_D} {l : Launch} : jx_CsOK D l "LoopLane" 4 cs_X0_runLaid := List.forall_mem_cons.mpr ⟨jc_X0_172 (jt_X3_clear l) (fun as g M Po (h : js_X3_clear as g M Po) => by unfold js_X3_clear at h; split at h <;> first | exact h.elim | exact ⟨_, _, _, rfl, rfl⟩) (by decide), List.forall_mem_cons.mpr ⟨jc_X0_234 (jt_X0_namesOf l) (fun as g M Po (h : js_X0_namesOf as g M Po) => by unfold js_X0_namesOf at h; split at h <;> first | exact h.elim | exact ⟨_, _, _, rfl, rfl⟩) (by decide), List.forall_mem_cons.mpr ⟨jc_X0_241 (jt_X0_begin l) (fun as g M Po (h : js_X0_begin as g M Po) => by unfold js_X0_begin at h; split at h <;> first | exact h.elim | exact ⟨_, _, _, rfl, rfl⟩) (by decide), List.forall_mem_cons.mpr ⟨jx_CS_max q910, List.forall_mem_cons.mpr ⟨jc_X0_244 (jt_X0_named l) (fun as g M Po (h : js_X0_named as g M Po) => by unfold js_X0_named at h; split at h <;> first | exact h.elim | exact ⟨_, _, _, rfl, rfl⟩) (by decide), List.forall_mem_cons.mpr ⟨jc_X0_210 (jt_X0_workY l) (fun as g M Po (h : js_X0_workY as g M Po) => by unfold js_X0_workY at h; split at h <;> first | exact h.elim | exact ⟨_, _, _, rfl, rfl⟩) (by decide), fun _ h => absurd h List.not_mem_nil⟩⟩⟩⟩⟩⟩
set_option maxHeartbeats 4000000 in
theorem jt_X0_runLaid (l : Launch) : jx_Ct l yX0_runLaid (ws_ yX0_runLaid cX0_runLaid 10 none) 4 48 32000 js_X0_runLaid := by
  refine jx_Ct_c (rc := 3) (by decide) rfl (fun D as g M Po hS => ?_)
  unfold js_X0_runLaid at hS
  split at hS
  · rename_i n1 x n2 r n3 n
    obtain ⟨S, ⟨hB, hl, hL, hW, hV, c0, hr, hn, hz⟩, hP⟩ := hS
    have x0 := hB.1.1
    have hb := hB.2.2.1
    have h9 := hb.1
    have H := rp_H_of hW c0
    have b1 := H.1
    have b60 := hW.2.1.2
    have pl : ∀ k, 0 ≤ k → k < S 0 9 → 1 ≤ mm_places S k ∧ mm_places S k ≤ 1000 := fun k a b => mm_places_V hW hV c0 a b
    have r26 : ∀ k, 0 ≤ k → k < S 0 9 → 0 ≤ S 26 k ∧ S 26 k ≤ 61000 := fun k a b => mW_26 hW c0 a b
    have mx := mm_max_r (S 26) 61000 (by omega) (S 0 9).toNat (fun v a b => (r26 v a (by omega)).2)
    obtain ⟨e, he⟩ : ∃ e, e = ml_e n S := ⟨_, rfl⟩
    have eb : 0 ≤ S 0 27 * (n - 1) ∧ S 0 27 * (n - 1) ≤ 60 * 199 := ⟨Int.mul_nonneg (by omega) (by omega), Int.mul_le_mul b60 (by omega) (by omega) (by omega)⟩
    have e0 : 0 ≤ e ∧ e ≤ 80000 := by rw [he]; unfold ml_e; omega
    have ge : ∀ k w, 0 ≤ k → k < S 0 9 → w ≤ n → S 26 k + S 0 27 * (w - 1) ≤ e := fun k w k0 k1 hw => by
      have m := mm_max_ge (S 26) (S 0 9).toNat k k0 (by omega)
      have := Int.mul_le_mul_of_nonneg_left (show w - 1 ≤ n - 1 by omega) (show 0 ≤ S 0 27 by omega)
      rw [he]; unfold ml_e; omega
    refine ⟨Nat.le_of_ble_eq_true rfl, ?_⟩
    have at316 : ∀ (c : Nat) (lim : Int) (Q M' : jx_M) (g' : jx_S) (P4 P5 P6 P7 P8 P9 : jx_A), rG g g' → xI x r 1 S g' M Q M' → xL x S Q M' n (e + 1) 0 lim → xLm Q n lim → (∀ g'' M'', xE x r 1 S g M (ml_done n Q) g'' M'' → Po (3, 0, 0) g'' M'') → jx_V D l (yX0_runLaid.cls, cX0_runLaid, 10, 3, [], 4, 48, 32000, yX0_runLaid.name) Po 316 [(60, n1, x), (63, n2, r), (0, n3, n), (0, 0, e), P4, P5, P6, P7, P8, P9] [] (3 * c, 2000 * c) (g') (M') := by
      intro c lim Q M' g' P4 P5 P6 P7 P8 P9 hg hI hx hm hE
      have f0 := hI.2.2.2.2 0 (by decide) (by decide) (by decide)
      have f2 := hI.2.2.2.2 2 (by decide) (by decide) (by decide)
      rw [show (38 : Int) + 0 = 38 from rfl] at f0
      rw [show (38 : Int) + 2 = 40 from rfl] at f2
      have go : ∀ w, w = (if Q 0 38 = 0 then n else Q 0 40) → Po (3, 0, 0) g' (jx_u M' r 6 w) := fun w hw => by
        have w1 : 0 ≤ w ∧ w ≤ n ∧ 16 * w ≤ lim := by
          rw [hw]
          split
          · rename_i z; have := hm.2.1 z; omega
          · rename_i z; have := hm.2.2 z; omega
        refine hE _ _ ?_
        unfold ml_done
        rw [← hw]
        refine ⟨hg, xI_f hr (by decide) rfl hI, ?_, ?_⟩
        · simp (disch := decide) only [jx_u_j, jx_u_eq]
          refine ⟨hm.1, ?_, ?_, by omega⟩
          · by_cases z : Q 0 38 = 0
            · have := hm.2.1 z; omega
            · have := hm.2.2 z; omega
          · by_cases z : Q 0 38 = 0
            · have := hm.2.1 z; omega
            · have := hm.2.2 z; omega
        · rw [jx_u_eq]
          intro w0 k k0 k1
          rw [jx_u_a _ _ _ _ _ _ (by unfold xr3 at hr; omega), jx_u_a _ _ _ _ _ _ (by decide)]
          refine (hx k (w - 1) k0 k1 (by omega) (by omega) (by omega) (.inl ?_)).1
          have := ge k w k0 k1 w1.2.1
          omega
      refine jx_runL (o := jo_X0) (cs := cs_X0_runLaid) (hf := jx_nh) jo_X0_ok hc_X0_runLaid (jx_HK_nil rfl) (fun _ => false) 20 ?_
      simp only [jw, ju, jx_tg, Int.cast_ofNat_Int, Int.reduceAdd, Int.reduceToNat, Nat.reduceAdd, Nat.reduceMul, Nat.reduceBEq, Nat.reduceLeDiff, Int.reduceLE, Int.reduceLT, Int.reduceEq, Int.reduceNeg, Int.reduceSub, Int.reduceMul, not_false_eq_true, true_and, and_true, and_self, Bool.or_false, Bool.false_or, Bool.or_true, Bool.true_or, List.length_nil, List.length_cons, Nat.zero_le, or_true, true_or, Nat.le_refl, ↓reduceIte, Nat.reduceEqDiff, forall_const, false_and, and_false, false_implies, implies_true, not_true_eq_false, or_false, false_or, ne_eq, jd_X0_runLaid, jd_X0_runLaid_1, jf_X0, f0, f2, js_J10_max, js_X0_begin, js_X0_named, js_X0_namesOf, js_X0_workY, js_X3_clear, cs_X0_runLaid, jx_ck_c]
      have := hm.1
      exact ⟨by omega, fun z => go _ (by rw [if_neg z]), fun z => go _ (by rw [if_pos (Classical.byContradiction z)])⟩
    have loop : ∀ (f : Nat) (now a lim : Int) (c : Nat) (Q M' : jx_M) (g' : jx_S) (P6 P7 P8 P9 : jx_A), 17 * (e + 1 - now) + (16 - a) < f → (0 ≤ now ∧ now ≤ e) → (0 ≤ a ∧ a ≤ S 0 9) → rG g g' → xI x r 1 S g' M Q M' → xNm x S M' (S 0 9) → xL x S Q M' n now a lim → xLm Q n lim → c ≤ mm_cnt (xD S now a lim) (S 0 9).toNat → (∀ g'' M'', xE x r 1 S g M (ml_done n (ml_go e f now a lim Q)) g'' M'' → Po (3, 0, 0) g'' M'') → jx_V D l (yX0_runLaid.cls, cX0_runLaid, 10, 3, [], 4, 48, 32000, yX0_runLaid.name) Po 88 [(60, n1, x), (63, n2, r), (0, n3, n), (0, 0, e), (0, 0, now), (0, 0, a), P6, P7, P8, P9] [] (3 * c, 2000 * c) (g') (M') := by
      intro f
      induction f with
      | zero => intro now a lim c Q M' g' P6 P7 P8 P9 hf; omega
      | succ f ih =>
        intro now a lim c Q M' g' P6 P7 P8 P9 hf hnow ha hg hI hN hx hm hcn hE
        have hC := xI_C hB hr hg hI
        have e9 : Q 0 9 = S 0 9 := hI.1.2 9 (by decide)
        have e26 : Q 26 a = S 26 a := hI.1.1 26 a (by decide) (by decide) (by decide)
        have e27 : Q 0 27 = S 0 27 := hI.1.2 27 (by decide)
        have et : ml_t Q now a = (now - S 26 a) / S 0 27 := by unfold ml_t; rw [e26, e27]
        have r5 : M' x 5 = S 0 9 := by rw [hC.2.1.1]; exact e9
        have fr : ∀ z k, z < x + 37 → M' z k = M z k := fun z k q => hI.2.1 z k (by omega) (by unfold xr3 at hr; omega) (by unfold xr3 at hr; omega) (by omega)
        have rb : M' x 26 = S 0 27 := by rw [fr _ _ (by omega)]; exact (hL.2 c0).1
        have cn16 := mm_cnt_le (xD S now a lim) (S 0 9).toNat
        by_cases hc : S 0 9 ≤ a
        · have ea : a = S 0 9 := by omega
          subst ea
          rw [ml_go_row (by omega) (by omega)] at hE
          have hx2 := xL_row hx
          have hcn2 := xD_row hcn
          by_cases hl2 : now + 1 ≤ e
          · have nx := ih (now + 1) 0 lim c Q M' g' P6 P7 P8 P9 (by omega) (by omega) (by omega) hg hI hN hx2 hm hcn2 hE
            refine jx_runL (o := jo_X0) (cs := cs_X0_runLaid) (hf := jx_nh) jo_X0_ok hc_X0_runLaid (jx_HK_nil rfl) (fun p => p == 97 || p == 316 || p == 88) 20 ?_
            simp only [jw, ju, jx_tg, Int.cast_ofNat_Int, Int.reduceAdd, Int.reduceToNat, Nat.reduceAdd, Nat.reduceMul, Nat.reduceBEq, Nat.reduceLeDiff, Int.reduceLE, Int.reduceLT, Int.reduceEq, Int.reduceNeg, Int.reduceSub, Int.reduceMul, not_false_eq_true, true_and, and_true, and_self, Bool.or_false, Bool.false_or, Bool.or_true, Bool.true_or, List.length_nil, List.length_cons, Nat.zero_le, or_true, true_or, Nat.le_refl, ↓reduceIte, Nat.reduceEqDiff, forall_const, false_and, and_false, false_implies, implies_true, not_true_eq_false, or_false, false_or, ne_eq, jd_X0_runLaid, jd_X0_runLaid_1, jf_X0, r5, js_J10_max, js_X0_begin, js_X0_named, js_X0_namesOf, js_X0_workY, js_X3_clear, cs_X0_runLaid, jx_ck_c]
            exact ⟨by omega, fun _ => ⟨by omega, fun z => by omega, fun _ => nx⟩, fun z => absurd (Int.le_refl _) z⟩
          · rw [ml_go_end (by omega)] at hE
            have ee : now = e := by omega
            subst ee
            have nx := at316 c lim Q M' g' (0, 0, now + 1) (0, 0, S 0 9) P6 P7 P8 P9 hg hI hx2 hm hE
            refine jx_runL (o := jo_X0) (cs := cs_X0_runLaid) (hf := jx_nh) jo_X0_ok hc_X0_runLaid (jx_HK_nil rfl) (fun p => p == 97 || p == 316 || p == 88) 20 ?_
            simp only [jw, ju, jx_tg, Int.cast_ofNat_Int, Int.reduceAdd, Int.reduceToNat, Nat.reduceAdd, Nat.reduceMul, Nat.reduceBEq, Nat.reduceLeDiff, Int.reduceLE, Int.reduceLT, Int.reduceEq, Int.reduceNeg, Int.reduceSub, Int.reduceMul, not_false_eq_true, true_and, and_true, and_self, Bool.or_false, Bool.false_or, Bool.or_true, Bool.true_or, List.length_nil, List.length_cons, Nat.zero_le, or_true, true_or, Nat.le_refl, ↓reduceIte, Nat.reduceEqDiff, forall_const, false_and, and_false, false_implies, implies_true, not_true_eq_false, or_false, false_or, ne_eq, jd_X0_runLaid, jd_X0_runLaid_1, jf_X0, r5, js_J10_max, js_X0_begin, js_X0_named, js_X0_namesOf, js_X0_workY, js_X3_clear, cs_X0_runLaid, jx_ck_c]
            exact ⟨by omega, fun _ => ⟨by omega, fun z => nx, fun z => by omega⟩, fun z => absurd (Int.le_refl _) z⟩
        · have hA := hC.2.1.2.2.1 a ha.1 (by omega)
          have k3 := rA_k3 hA x0 ha.1
          have nm := hN a ha.1 (by omega)
          have ra := r26 a ha.1 (by omega)
          have f0 : M' r 0 = Q 0 38 := hI.2.2.2.2 0 (by decide) (by decide) (by decide)
          have f1 : M' r 1 = Q 0 39 := hI.2.2.2.2 1 (by decide) (by decide) (by decide)
          have f2 : M' r 2 = Q 0 40 := hI.2.2.2.2 2 (by decide) (by decide) (by decide)
          have f3 : M' r 3 = Q 0 41 := hI.2.2.2.2 3 (by decide) (by decide) (by decide)
          have at304 : ml_sk Q now a lim → ∀ P6 P7 P8 P9, jx_V D l (yX0_runLaid.cls, cX0_runLaid, 10, 3, [], 4, 48, 32000, yX0_runLaid.name) Po 304 [(60, n1, x), (63, n2, r), (0, n3, n), (0, 0, e), (0, 0, now), (0, 0, a), P6, P7, P8, P9] [] (3 * c, 2000 * c) (g') (M') := by
            intro hs P6 P7 P8 P9
            rw [ml_go_sk (by omega) (by omega) hs] at hE
            unfold ml_sk at hs
            rw [et, e26, e27] at hs
            have nx := ih now (a + 1) lim c Q M' g' P6 P7 P8 P9 (by omega) hnow (by omega) hg hI hN (xL_skip hx (fun τ t0 te tn => by
              have q1 : now - S 26 a = S 0 27 * τ := by omega
              rw [q1, Int.mul_ediv_cancel_left _ (show S 0 27 ≠ 0 by omega), Int.mul_emod_right] at hs
              have := Int.mul_nonneg (show 0 ≤ S 0 27 by omega) t0
              omega)) hm (xD_skip hcn) hE
            refine jx_runL (o := jo_X0) (cs := cs_X0_runLaid) (hf := jx_nh) jo_X0_ok hc_X0_runLaid (jx_HK_nil rfl) (fun p => p == 88) 20 ?_
            simp only [jw, ju, jx_tg, Int.cast_ofNat_Int, Int.reduceAdd, Int.reduceToNat, Nat.reduceAdd, Nat.reduceMul, Nat.reduceBEq, Nat.reduceLeDiff, Int.reduceLE, Int.reduceLT, Int.reduceEq, Int.reduceNeg, Int.reduceSub, Int.reduceMul, not_false_eq_true, true_and, and_true, and_self, Bool.or_false, Bool.false_or, Bool.or_true, Bool.true_or, List.length_nil, List.length_cons, Nat.zero_le, or_true, true_or, Nat.le_refl, ↓reduceIte, Nat.reduceEqDiff, forall_const, false_and, and_false, false_implies, implies_true, not_true_eq_false, or_false, false_or, ne_eq, jd_X0_runLaid, jd_X0_runLaid_1, jf_X0, js_J10_max, js_X0_begin, js_X0_named, js_X0_namesOf, js_X0_workY, js_X3_clear, cs_X0_runLaid, jx_ck_c]
            exact nx
          have cq := hm.2.1
          have cq2 := hm.2.2
          have cq0 := hm.1
          by_cases hneg : now - S 26 a < 0
          · refine jx_runL (o := jo_X0) (cs := cs_X0_runLaid) (hf := jx_nh) jo_X0_ok hc_X0_runLaid (jx_HK_nil rfl) (fun p => p == 123 || p == 304 || p == 310) 60 ?_
            simp only [jw, ju, jx_tg, Int.cast_ofNat_Int, Int.reduceAdd, Int.reduceToNat, Nat.reduceAdd, Nat.reduceMul, Nat.reduceBEq, Nat.reduceLeDiff, Int.reduceLE, Int.reduceLT, Int.reduceEq, Int.reduceNeg, Int.reduceSub, Int.reduceMul, not_false_eq_true, true_and, and_true, and_self, Bool.or_false, Bool.false_or, Bool.or_true, Bool.true_or, List.length_nil, List.length_cons, Nat.zero_le, or_true, true_or, Nat.le_refl, ↓reduceIte, Nat.reduceEqDiff, forall_const, false_and, and_false, false_implies, implies_true, not_true_eq_false, or_false, false_or, ne_eq, jd_X0_runLaid, jd_X0_runLaid_1, jf_X0, r5, nm.2, rb, js_J10_max, js_X0_begin, js_X0_named, js_X0_namesOf, js_X0_workY, js_X3_clear, cs_X0_runLaid, jx_ck_c]
            exact ⟨by omega, fun z => by omega, fun _ => ⟨by omega, ⟨by omega, by omega, c0⟩, by omega, fun _ => at304 (.inl (by rw [e26]; exact hneg)) _ _ _ _, fun z => by omega⟩⟩
          · have td := Int.tdiv_eq_ediv_of_nonneg (b := S 0 27) (show 0 ≤ now - S 26 a by omega)
            have tm := Int.tmod_eq_emod_of_nonneg (b := S 0 27) (show 0 ≤ now - S 26 a by omega)
            have sk : ml_sk Q now a lim ↔ ((now - S 26 a) % S 0 27 ≠ 0 ∨ lim ≤ 16 * ((now - S 26 a) / S 0 27) + a) := by
              unfold ml_sk
              rw [et, e26, e27]
              exact ⟨fun z => z.resolve_left hneg, fun z => .inr z⟩
            have dm := Int.mul_ediv_add_emod (now - S 26 a) (S 0 27)
            have m0 := Int.emod_nonneg (now - S 26 a) c0
            have m1 := Int.emod_lt_of_pos (now - S 26 a) (show 0 < S 0 27 by omega)
            have t0 := Int.ediv_nonneg (show 0 ≤ now - S 26 a by omega) (show 0 ≤ S 0 27 by omega)
            have t1 : (now - S 26 a) / S 0 27 ≤ now - S 26 a := Int.ediv_le_self _ (by omega)
            generalize (now - S 26 a) / S 0 27 = t at *
            generalize (now - S 26 a) % S 0 27 = md at *
            have at176 : md = 0 → 16 * t + a < lim → ∀ P8 P9, jx_V D l (yX0_runLaid.cls, cX0_runLaid, 10, 3, [], 4, 48, 32000, yX0_runLaid.name) Po 176 [(60, n1, x), (63, n2, r), (0, n3, n), (0, 0, e), (0, 0, now), (0, 0, a), (0, 0, now - S 26 a), (0, 0, t), P8, P9] [] (3 * c, 2000 * c) (g') (M') := by
              intro md0 hlim P8 P9
              have hnk : ¬ ml_sk Q now a lim := fun z => by have := sk.mp z; omega
              have ht : 0 ≤ t ∧ S 26 a + S 0 27 * t = now := ⟨t0, by omega⟩
              have tn : t < n := by
                by_cases z : Q 0 38 = 0
                · have := cq z; omega
                · have := cq2 z; omega
              have I1 := xI_f (k := 4) (j := 42) (v := now + 1) hr (by decide) rfl (xI_f (k := 3) (j := 41) (v := Q 0 41 + 1) hr (by decide) rfl hI)
              obtain ⟨Q1, hQ1⟩ : ∃ q, q = ml_S1 Q now := ⟨_, rfl⟩
              obtain ⟨M1, hM1⟩ : ∃ q, q = jx_u (jx_u M' r 3 (Q 0 41 + 1)) r 4 (now + 1) := ⟨_, rfl⟩
              have I1 : xI x r 1 S g' M Q1 M1 := by rw [hQ1, hM1]; exact I1
              have hC1 := xI_C hB hr hg I1
              have e91 : Q1 0 9 = S 0 9 := I1.1.2 9 (by decide)
              have q1 : ∀ k, k ≠ 41 → k ≠ 42 → Q1 0 k = Q 0 k := fun k a b => by rw [hQ1]; unfold ml_S1; rw [jx_u_j _ _ _ _ _ _ b, jx_u_j _ _ _ _ _ _ a]
              have q32 : ∀ k, Q1 32 k = Q 32 k := fun k => by rw [hQ1]; unfold ml_S1; rw [jx_u_a _ _ _ _ _ _ (by decide), jx_u_a _ _ _ _ _ _ (by decide)]
              have mm1 : ∀ z k, z ≠ r → M1 z k = M' z k := fun z k a => by rw [hM1, jx_u_a _ _ _ _ _ _ a, jx_u_a _ _ _ _ _ _ a]
              have rne : ∀ j, 43 ≤ j → x + j ≠ r := fun j hj => by unfold xr3 at hr; omega
              have hN1 : xNm x S M1 (S 0 9) := fun k k0 k1 => by rw [mm1 _ _ (rne 45 (by decide)), mm1 _ _ (rne 46 (by decide))]; exact hN k k0 k1
              have hx1 : xL x S Q1 M1 n now a lim := xL_c hx q32 (fun j => mm1 _ _ (rne 43 (by decide))) (fun j => mm1 _ _ (rne 44 (by decide)))
              have s1 : Q1 1 a = S 1 a := I1.1.1 1 a (by decide) (by decide) (by decide)
              have op : ∀ i, 0 ≤ i → i < 3 → (i < mm_nop (Q1 1 a) → 0 ≤ t - Q1 7 (3 * a + i) → (1 ≤ M1 (x + 45) (Q1 6 (3 * a + i)) ∧ M1 (x + 45) (Q1 6 (3 * a + i)) ≤ 1000) ∧ M1 (x + 44) (1000 * Q1 6 (3 * a + i) + (t - Q1 7 (3 * a + i)) % M1 (x + 45) (Q1 6 (3 * a + i))) = Q1 32 (16 * (t - Q1 7 (3 * a + i)) + Q1 6 (3 * a + i))) := fun i i0 i1 z d => by
                rw [I1.1.1 7 _ (by decide) (by decide) (by decide)] at d ⊢
                rw [I1.1.1 6 _ (by decide) (by decide) (by decide)]
                rw [s1] at z
                have o := (hb.2.2.2.1 a i ha.1 (by omega) i0 i1).1 z
                have w := hB.2.2.2.1 (3 * a + i) (by omega) (by omega)
                have pp := pl _ o.1.1 w
                rw [(hN1 _ o.1.1 w).1]
                exact ⟨pp, xL_rd H hb ⟨ha.1, by omega⟩ ⟨⟨t0, tn⟩, ht.2⟩ hlim hx1 i0 i1 ⟨⟨o.1.1, by omega⟩, o.2.1⟩ d⟩
              have hA1 : M1 (x + 13) a = M' (x + 13) a := mm1 _ _ (by unfold xr3 at hr; omega)
              have kx : xk g' (M' (x + 13) a) 0 := rA_k hA x0 ha.1
              have pa := pl a ha.1 (by omega)
              have ma := Int.emod_lt_of_pos t (show 0 < mm_places S a by omega)
              have ma0 := Int.emod_nonneg t (show mm_places S a ≠ 0 by omega)
              have tma := Int.tmod_eq_emod_of_nonneg (b := mm_places S a) t0
              have at203 : jx_V D l (yX0_runLaid.cls, cX0_runLaid, 10, 3, [], 4, 48, 32000, yX0_runLaid.name) Po 203 [(60, n1, x), (63, n2, r), (0, n3, n), (0, 0, e), (0, 0, now), (0, 0, a), (0, 0, now - S 26 a), (0, 0, t), (80, 0, M' (x + 13) a), P9] [] (3 * c, 2000 * c) (g') (M1) := by
                by_cases hy : mm_dwhy Q1 a t = 0
                · rw [ml_go_ok (by omega) (by omega) hnk (by rw [et, ← hQ1]; exact hy), et, ← hQ1] at hE
                  have Y := xw_Y (i := 16 * t + a) hC1 ha.1 (by omega) rfl rfl rfl hy
                  have I2 := xI_put (i := 16 * t + a) (v := mm_dend Q1 a t) hr I1 hC1 ha.1 (by omega) rfl rfl rfl hy
                  have y3 := (Y.2.2 (mm_dend Q1 a t)).2
                  rw [hA1] at Y I2 y3
                  obtain ⟨M2, hM2⟩ : ∃ q, q = jx_u (xw_put g' M1 (x + 3) (M' (x + 13) a) (xo Q1 a 0 t) (xo Q1 a 1 t)) (x + 43) (16 * t + a) (mm_dend Q1 a t) := ⟨_, rfl⟩
                  rw [← hM2] at I2 y3
                  have y4 : M2 (x + 43) (16 * t + a) = mm_dend Q1 a t := by rw [hM2, jx_u_eq]
                  have n2' : M2 (x + 45) a = mm_places S a := by rw [y3 _ _ (by omega) (by omega)]; exact (hN1 a ha.1 (by omega)).1
                  have nx := fun P6 P7 P8 P9 => ih now (a + 1) lim c (mm_dput Q1 a t) (jx_u M2 (x + 44) (1000 * a + t % mm_places S a) (mm_dend Q1 a t)) g' P6 P7 P8 P9 (by omega) hnow (by omega) hg (xI_m hr (by omega) I2) (fun k k0 k1 => by
                    rw [jx_u_a _ _ _ _ _ _ (by omega), jx_u_a _ _ _ _ _ _ (by omega), y3 _ _ (by omega) (by omega), y3 _ _ (by omega) (by omega)]
                    exact hN1 k k0 k1) (xL_do b1 h9.2 pl ⟨ha.1, by omega⟩ ht hx1 (Int.le_refl _) (fun j hj => mm_dput_32 hj) (fun j hj => by rw [jx_u_a _ _ _ _ _ _ (by omega)]; exact y3 _ _ (by omega) (by omega)) (fun j hj => by rw [jx_u_j _ _ _ _ _ _ hj]; exact y3 _ _ (by omega) (by omega)) (.inr ⟨by rw [jx_u_a _ _ _ _ _ _ (by omega), y4, mm_dput_e], by rw [jx_u_eq, mm_dput_e]⟩)) (by
                    unfold xLm
                    simp only [mm_dput_0, q1 38 (by decide) (by decide), q1 39 (by decide) (by decide), q1 40 (by decide) (by decide)]
                    exact hm) (xD_skip hcn) hE
                  have at246 : jx_V D l (yX0_runLaid.cls, cX0_runLaid, 10, 3, [], 4, 48, 32000, yX0_runLaid.name) Po 246 [(60, n1, x), (63, n2, r), (0, n3, n), (0, 0, e), (0, 0, now), (0, 0, a), (0, 0, now - S 26 a), (0, 0, t), (80, 0, M' (x + 13) a), (0, 0, 0)] [] (3 * c, 2000 * c) (g') (M2) := by
                    refine jx_runL (o := jo_X0) (cs := cs_X0_runLaid) (hf := jx_nh) jo_X0_ok hc_X0_runLaid (jx_HK_nil rfl) (fun p => p == 88) 60 ?_
                    simp only [jw, ju, jx_tg, Int.cast_ofNat_Int, Int.reduceAdd, Int.reduceToNat, Nat.reduceAdd, Nat.reduceMul, Nat.reduceBEq, Nat.reduceLeDiff, Int.reduceLE, Int.reduceLT, Int.reduceEq, Int.reduceNeg, Int.reduceSub, Int.reduceMul, not_false_eq_true, true_and, and_true, and_self, Bool.or_false, Bool.false_or, Bool.or_true, Bool.true_or, List.length_nil, List.length_cons, Nat.zero_le, or_true, true_or, Nat.le_refl, ↓reduceIte, Nat.reduceEqDiff, forall_const, false_and, and_false, false_implies, implies_true, not_true_eq_false, or_false, false_or, ne_eq, jd_X0_runLaid, jd_X0_runLaid_1, jf_X0, n2', tma, y4, js_J10_max, js_X0_begin, js_X0_named, js_X0_namesOf, js_X0_workY, js_X3_clear, cs_X0_runLaid, jx_ck_c]
                    refine ⟨by omega, by omega, by omega, by omega, nx _ _ _ _⟩
                  rw [hM2] at at246
                  refine jx_runL (o := jo_X0) (cs := cs_X0_runLaid) (hf := jx_nh) jo_X0_ok hc_X0_runLaid (jx_HK_nil rfl) (fun p => p == 246) 60 ?_
                  simp only [jw, ju, jx_tg, Int.cast_ofNat_Int, Int.reduceAdd, Int.reduceToNat, Nat.reduceAdd, Nat.reduceMul, Nat.reduceBEq, Nat.reduceLeDiff, Int.reduceLE, Int.reduceLT, Int.reduceEq, Int.reduceNeg, Int.reduceSub, Int.reduceMul, not_false_eq_true, true_and, and_true, and_self, Bool.or_false, Bool.false_or, Bool.or_true, Bool.true_or, List.length_nil, List.length_cons, Nat.zero_le, or_true, true_or, Nat.le_refl, ↓reduceIte, Nat.reduceEqDiff, forall_const, false_and, and_false, false_implies, implies_true, not_true_eq_false, or_false, false_or, ne_eq, jd_X0_runLaid, jd_X0_runLaid_1, jf_X0, Nat.add_zero, js_J10_max, js_X0_begin, js_X0_named, js_X0_namesOf, js_X0_workY, js_X3_clear, cs_X0_runLaid, jx_ck_c]
                  refine ⟨by omega, Q1, a, ⟨hC1, by omega, hA1.symm, by omega, op 0 (by decide) (by decide)⟩, by omega, Q1, a, ⟨hC1, by omega, hA1.symm, by omega, op 1 (by decide) (by decide)⟩, by omega, Q1, a, ⟨hC1, by omega, hA1.symm, by omega, op 2 (by decide) (by decide)⟩, by omega, by omega, kx, Y.1, ?_⟩
                  rw [Y.2.1]
                  exact at246
                · rw [ml_go_no (by omega) (by omega) hnk (by rw [et, ← hQ1]; exact hy), et, ← hQ1] at hE
                  have hw := mm_does_r (S := Q1) (a := a) (t := t)
                  rw [mm_does_n hy] at hw
                  have cd := xD_do b1 ⟨ha.1, by omega⟩ ht hlim hcn
                  have cd16 := mm_cnt_le (xD S now (a + 1) (16 * t + a)) (S 0 9).toNat
                  have oc : 3 * c ≤ 48 ∧ 2000 * c ≤ 32000 := by clear k3; omega
                  have od : 3 * c ≤ 45 ∧ 2000 * c ≤ 30000 := by clear k3; omega
                  have hNo := fun Po hP => xw_N (p := xo Q1 a 0 t) (q := xo Q1 a 1 t) (Po := Po) hC1 ha.1 (by omega) rfl rfl hy hP
                  rw [hA1] at hNo
                  have n2' : M1 (x + 45) a = mm_places S a := (hN1 a ha.1 (by omega)).1
                  have at244 : ∀ m : Nat, m = 1 ∨ m = 3 → jx_V D l (yX0_runLaid.cls, cX0_runLaid, 10, 3, [], 4, 48, 32000, yX0_runLaid.name) Po 244 [(60, n1, x), (63, n2, r), (0, n3, n), (0, 0, e), (0, 0, now), (0, 0, a), (0, 0, now - S 26 a), (0, 0, t), (80, 0, M' (x + 13) a), P9] [(0, 0, mm_dwhy Q1 a t)] (3 * c + 3, 2000 * c + 2000) (g'.1 + m, g'.2) M1 := by
                    intro m hmm
                    have hg2 : rG g' (g'.1 + m, g'.2) := rG_add
                    have I3 := xI_f (k := 2) (j := 40) (v := t) hr (by decide) rfl (xI_f (k := 1) (j := 39) (v := a) hr (by decide) rfl (xI_f (k := 0) (j := 38) (v := mm_dwhy Q1 a t) hr (by decide) rfl (xI_m (z := x + 44) (k := 1000 * a + t % mm_places S a) (v := M1 (x + 43) (16 * t + a)) hr (by omega) (xI_g hg2 I1))))
                    obtain ⟨M3, hM3⟩ : ∃ q, q = jx_u (jx_u (jx_u (jx_u M1 (x + 44) (1000 * a + t % mm_places S a) (M1 (x + 43) (16 * t + a))) r 0 (mm_dwhy Q1 a t)) r 1 a) r 2 t := ⟨_, rfl⟩
                    rw [← hM3] at I3
                    have m3 : ∀ z k, z ≠ r → ¬ (z = x + 44 ∧ k = 1000 * a + t % mm_places S a) → M3 z k = M1 z k := fun z k a b => by
                      rw [hM3, jx_u_a _ _ _ _ _ _ a, jx_u_a _ _ _ _ _ _ a, jx_u_a _ _ _ _ _ _ a]
                      exact if_neg b
                    have nx := fun P6 P7 P8 P9 => ih now (a + 1) (16 * t + a) (c + 1) _ M3 _ P6 P7 P8 P9 (by omega) hnow (by omega) (rG_tr hg hg2) I3 (fun k k0 k1 => by
                      rw [m3 _ _ (rne 45 (by decide)) (by omega), m3 _ _ (rne 46 (by decide)) (by omega)]
                      exact hN1 k k0 k1) (xL_do b1 h9.2 pl ⟨ha.1, by omega⟩ ht hx1 (by omega) (fun j hj => by simp (disch := decide) only [jx_u_a]) (fun j hj => m3 _ _ (rne 43 (by decide)) (by omega)) (fun j hj => m3 _ _ (rne 44 (by decide)) (by omega)) (.inl rfl)) (by
                      unfold xLm
                      simp (disch := decide) only [jx_u_j, jx_u_eq]
                      exact ⟨hw, fun z => absurd z hy, fun _ => ⟨trivial, by omega, by omega⟩⟩) cd hE
                    rw [show 3 * (c + 1) = 3 * c + 3 from rfl, show 2000 * (c + 1) = 2000 * c + 2000 from rfl, hM3] at nx
                    refine jx_runL (o := jo_X0) (cs := cs_X0_runLaidN) (hf := jx_nh) jo_X0_ok hc_X0_runLaidN (jx_HK_nil rfl) (fun p => p == 88) 60 ?_
                    simp only [jw, ju, jx_tg, Int.cast_ofNat_Int, Int.reduceAdd, Int.reduceToNat, Nat.reduceAdd, Nat.reduceMul, Nat.reduceBEq, Nat.reduceLeDiff, Int.reduceLE, Int.reduceLT, Int.reduceEq, Int.reduceNeg, Int.reduceSub, Int.reduceMul, not_false_eq_true, true_and, and_true, and_self, Bool.or_false, Bool.false_or, Bool.or_true, Bool.true_or, List.length_nil, List.length_cons, Nat.zero_le, or_true, true_or, Nat.le_refl, ↓reduceIte, Nat.reduceEqDiff, forall_const, false_and, and_false, false_implies, implies_true, not_true_eq_false, or_false, false_or, ne_eq, jd_X0_runLaid, jd_X0_runLaid_1, jf_X0, n2', tma, js_J10_max, js_X0_begin, js_X0_named, js_X0_namesOf, js_X0_workN, js_X3_clear, cs_X0_runLaidN, jx_ck_c]
                    exact ⟨by omega, by omega, by omega, by omega, by omega, fun z => absurd z hy, fun _ => nx _ _ _ _⟩
                  have hN2 := hNo (fun v g2 M2 => jx_V D l (yX0_runLaid.cls, cX0_runLaid, 10, 3, [], 4, 48, 32000, yX0_runLaid.name) Po 244 [(60, n1, x), (63, n2, r), (0, n3, n), (0, 0, e), (0, 0, now), (0, 0, a), (0, 0, now - S 26 a), (0, 0, t), (80, 0, M' (x + 13) a), P9] [v] (3 * c + 3, 2000 * c + 2000) g2 M2) at244
                  refine jx_runL (o := jo_X0) (cs := cs_X0_runLaidN) (hf := jx_nh) jo_X0_ok hc_X0_runLaidN (jx_HK_nil rfl) (fun p => p == 244) 60 ?_
                  simp only [jw, ju, jx_tg, Int.cast_ofNat_Int, Int.reduceAdd, Int.reduceToNat, Nat.reduceAdd, Nat.reduceMul, Nat.reduceBEq, Nat.reduceLeDiff, Int.reduceLE, Int.reduceLT, Int.reduceEq, Int.reduceNeg, Int.reduceSub, Int.reduceMul, not_false_eq_true, true_and, and_true, and_self, Bool.or_false, Bool.false_or, Bool.or_true, Bool.true_or, List.length_nil, List.length_cons, Nat.zero_le, or_true, true_or, Nat.le_refl, ↓reduceIte, Nat.reduceEqDiff, forall_const, false_and, and_false, false_implies, implies_true, not_true_eq_false, or_false, false_or, ne_eq, jd_X0_runLaid, jd_X0_runLaid_1, jf_X0, Nat.add_zero, js_J10_max, js_X0_begin, js_X0_named, js_X0_namesOf, js_X0_workN, js_X3_clear, cs_X0_runLaidN, jx_ck_c]
                  exact ⟨oc, Q1, a, ⟨hC1, by omega, hA1.symm, by omega, op 0 (by decide) (by decide)⟩, oc, Q1, a, ⟨hC1, by omega, hA1.symm, by omega, op 1 (by decide) (by decide)⟩, oc, Q1, a, ⟨hC1, by omega, hA1.symm, by omega, op 2 (by decide) (by decide)⟩, od, by omega, hN2⟩
              rw [hM1] at at203
              refine jx_runL (o := jo_X0) (cs := cs_X0_runLaid) (hf := jx_nh) jo_X0_ok hc_X0_runLaid (jx_HK_nil rfl) (fun p => p == 203) 60 ?_
              simp only [jw, ju, jx_tg, Int.cast_ofNat_Int, Int.reduceAdd, Int.reduceToNat, Nat.reduceAdd, Nat.reduceMul, Nat.reduceBEq, Nat.reduceLeDiff, Int.reduceLE, Int.reduceLT, Int.reduceEq, Int.reduceNeg, Int.reduceSub, Int.reduceMul, not_false_eq_true, true_and, and_true, and_self, Bool.or_false, Bool.false_or, Bool.or_true, Bool.true_or, List.length_nil, List.length_cons, Nat.zero_le, or_true, true_or, Nat.le_refl, ↓reduceIte, Nat.reduceEqDiff, forall_const, false_and, and_false, false_implies, implies_true, not_true_eq_false, or_false, false_or, ne_eq, jd_X0_runLaid, jd_X0_runLaid_1, jf_X0, f3, js_J10_max, js_X0_begin, js_X0_named, js_X0_namesOf, js_X0_workY, js_X3_clear, cs_X0_runLaid, jx_ck_c]
              exact ⟨by omega, k3, at203⟩
            refine jx_runL (o := jo_X0) (cs := cs_X0_runLaid) (hf := jx_nh) jo_X0_ok hc_X0_runLaid (jx_HK_nil rfl) (fun p => p == 176 || p == 304 || p == 310) 60 ?_
            simp only [jw, ju, jx_tg, Int.cast_ofNat_Int, Int.reduceAdd, Int.reduceToNat, Nat.reduceAdd, Nat.reduceMul, Nat.reduceBEq, Nat.reduceLeDiff, Int.reduceLE, Int.reduceLT, Int.reduceEq, Int.reduceNeg, Int.reduceSub, Int.reduceMul, not_false_eq_true, true_and, and_true, and_self, Bool.or_false, Bool.false_or, Bool.or_true, Bool.true_or, List.length_nil, List.length_cons, Nat.zero_le, or_true, true_or, Nat.le_refl, ↓reduceIte, Nat.reduceEqDiff, forall_const, false_and, and_false, false_implies, implies_true, not_true_eq_false, or_false, false_or, ne_eq, jd_X0_runLaid, jd_X0_runLaid_1, jf_X0, r5, nm.2, rb, f0, f1, f2, td, tm, js_J10_max, js_X0_begin, js_X0_named, js_X0_namesOf, js_X0_workY, js_X3_clear, cs_X0_runLaid, jx_ck_c]
            have s4 : (md ≠ 0 ∨ lim ≤ 16 * t + a) → ∀ P6 P7 P8 P9, jx_V D l (yX0_runLaid.cls, cX0_runLaid, 10, 3, [], 4, 48, 32000, yX0_runLaid.name) Po 304 [(60, n1, x), (63, n2, r), (0, n3, n), (0, 0, e), (0, 0, now), (0, 0, a), P6, P7, P8, P9] [] (3 * c, 2000 * c) (g') (M') := by
              intro z
              exact at304 (sk.mpr z)
            refine ⟨by omega, fun z => by omega, fun _ => ⟨by omega, ⟨by omega, by omega, c0⟩, by omega, fun z => by omega, fun _ => ⟨⟨by omega, by omega, c0⟩, by omega, fun z => s4 (.inl z) _ _ _ _, fun z => ⟨by omega, fun w => s4 (by omega) _ _ _ _, fun w => ⟨by omega, fun v => at176 (by omega) (by omega) _ _, fun v => ⟨by omega, fun u => s4 (by omega) _ _ _ _, fun u => ⟨by omega, fun y => at176 (by omega) (by omega) _ _, fun y => ⟨by omega, fun y2 => at176 (by omega) (by omega) _ _, fun y2 => s4 (by omega) _ _ _ _⟩⟩⟩⟩⟩⟩⟩⟩
    -- the first loop: names and begins
    have pre : ∀ (f k : Nat) (M' : jx_M) (P5 P6 P7 P8 P9 : jx_A), (k : Int) + f = S 0 9 → xI x r 1 S g M S M' → xNm x S M' k → jx_V D l (yX0_runLaid.cls, cX0_runLaid, 10, 3, [], 4, 48, 32000, yX0_runLaid.name) Po 14 [(60, n1, x), (63, n2, r), (0, n3, n), (0, 0, if k = 0 then 0 else mm_max (S 26) k + S 0 27 * (n - 1)), (0, 0, (k : Int)), P5, P6, P7, P8, P9] [] (0, 0) g (M') := by
      intro f
      induction f with
      | zero =>
        intro k M' P5 P6 P7 P8 P9 hk hI hN
        have hC := xI_C hB hr rG_rf hI
        have r5 : M' x 5 = S 0 9 := hC.2.1.1
        have k0 : k ≠ 0 := by have := (hW.2.2.1 c0).1.1; omega
        have st := fun P6 P7 P8 P9 => loop (17 * (ml_e n S).toNat + 100) 0 0 (16 * n) 0 S M' g P6 P7 P8 P9 (by rw [he]; omega) (by omega) (by omega) rG_rf hI (by rw [← hk]; intro q q0 q1; exact hN q q0 (by omega)) (fun q τ q0 q1 t0 t1 hl hx => by
          unfold xX at hx
          have := r26 q q0 q1
          have := Int.mul_nonneg (show 0 ≤ S 0 27 by omega) t0
          omega) ⟨by rw [hz.1]; decide, fun _ => ⟨rfl, hz.2.1, hz.2.2.1⟩, fun z => absurd hz.1 z⟩ (Nat.zero_le _) (by
          unfold mu_laid at hP
          rw [he]
          exact hP)
        have ek : (if k = 0 then 0 else mm_max (S 26) k + S 0 27 * (n - 1)) = e := by
          rw [if_neg k0, he]
          unfold ml_e
          rw [show (S 0 9).toNat = k by omega]
        rw [ek]
        refine jx_runL (o := jo_X0) (cs := cs_X0_runLaid) (hf := jx_nh) jo_X0_ok hc_X0_runLaid (jx_HK_nil rfl) (fun p => p == 23 || p == 88 || p == 316) 30 ?_
        simp only [jw, ju, jx_tg, Int.cast_ofNat_Int, Int.reduceAdd, Int.reduceToNat, Nat.reduceAdd, Nat.reduceMul, Nat.reduceBEq, Nat.reduceLeDiff, Int.reduceLE, Int.reduceLT, Int.reduceEq, Int.reduceNeg, Int.reduceSub, Int.reduceMul, not_false_eq_true, true_and, and_true, and_self, Bool.or_false, Bool.false_or, Bool.or_true, Bool.true_or, List.length_nil, List.length_cons, Nat.zero_le, or_true, true_or, Nat.le_refl, ↓reduceIte, Nat.reduceEqDiff, forall_const, false_and, and_false, false_implies, implies_true, not_true_eq_false, or_false, false_or, ne_eq, jd_X0_runLaid, jd_X0_runLaid_1, jf_X0, r5, js_J10_max, js_X0_begin, js_X0_named, js_X0_namesOf, js_X0_workY, js_X3_clear, cs_X0_runLaid, jx_ck_c]
        exact ⟨by omega, fun _ => ⟨by omega, fun z => by omega, fun _ => st _ _ _ _⟩, fun z => by omega⟩
      | succ f ih =>
        intro k M' P5 P6 P7 P8 P9 hk hI hN
        have hC := xI_C hB hr rG_rf hI
        have r5 : M' x 5 = S 0 9 := hC.2.1.1
        have fr : ∀ z k, z < x + 37 → M' z k = M z k := fun z k q => hI.2.1 z k (by omega) (by unfold xr3 at hr; omega) (by unfold xr3 at hr; omega) (by omega)
        have hL' : rLd x S M' := rLd_c hL (fun z k w => fr z k (by unfold qLd at w; omega))
        obtain ⟨M1, hM1⟩ : ∃ q, q = jx_u M' (x + 45) k (mm_places S k) := ⟨_, rfl⟩
        have I1 : xI x r 1 S g M S M1 := by rw [hM1]; exact xI_m hr (by omega) hI
        have eb' : M1 x 26 * M1 (x + 31) k + M1 (x + 30) k = S 26 k := by
          rw [hM1, jx_u_a _ _ _ _ _ _ (by omega), jx_u_a _ _ _ _ _ _ (by omega), jx_u_a _ _ _ _ _ _ (by omega)]
          exact rLd_b hL' hW c0 (by omega) (by omega)
        have rb : M1 x 26 = S 0 27 := by rw [hM1, jx_u_a _ _ _ _ _ _ (by omega)]; exact (hL'.2 c0).1
        have I2 : xI x r 1 S g M S (jx_u M1 (x + 46) k (S 26 k)) := xI_m hr (by omega) I1
        have rk := r26 k (by omega) (by omega)
        have mk := mm_max_r (S 26) 61000 (by omega) k (fun v a b => (r26 v a (by omega)).2)
        have nx := fun P5 P6 P7 P8 P9 => ih (k + 1) _ P5 P6 P7 P8 P9 (by omega) I2 (fun q q0 q1 => by
          by_cases c : q = k
          · rw [c, jx_u_a _ _ _ _ _ _ (by omega), hM1, jx_u_eq, jx_u_eq]
            exact ⟨rfl, rfl⟩
          · rw [jx_u_j _ _ _ _ _ _ c, jx_u_j _ _ _ _ _ _ c, hM1, jx_u_j _ _ _ _ _ _ c, jx_u_j _ _ _ _ _ _ c]
            exact hN q q0 (by omega))
        have el : (if k + 1 = 0 then 0 else mm_max (S 26) (k + 1) + S 0 27 * (n - 1)) = max (if k = 0 then 0 else mm_max (S 26) k + S 0 27 * (n - 1)) (S 26 k + S 0 27 * (n - 1)) := by
          rw [if_neg (by omega), show mm_max (S 26) (k + 1) = max (mm_max (S 26) k) (S 26 k) from rfl]
          by_cases c : k = 0
          · subst c
            rw [if_pos rfl, show mm_max (S 26) 0 = 0 from rfl]
            omega
          · rw [if_neg c]
            omega
        rw [el, show (((k + 1 : Nat) : Int)) = (k : Int) + 1 by omega] at nx
        have lr : 0 ≤ (if k = 0 then 0 else mm_max (S 26) k + S 0 27 * (n - 1)) ∧ (if k = 0 then 0 else mm_max (S 26) k + S 0 27 * (n - 1)) ≤ 80000 := by split <;> omega
        generalize (if k = 0 then 0 else mm_max (S 26) k + S 0 27 * (n - 1)) = lst at *
        have at36 : ∀ P5 P6 P7 P8 P9 : jx_A, jx_V D l (yX0_runLaid.cls, cX0_runLaid, 10, 3, [], 4, 48, 32000, yX0_runLaid.name) Po 36 [(60, n1, x), (63, n2, r), (0, n3, n), (0, 0, lst), (0, 0, (k : Int)), P5, P6, P7, P8, P9] [] (0, 0) g (M1) := by
          intro P5 P6 P7 P8 P9
          rw [rb] at eb'
          refine jx_runL (o := jo_X0) (cs := cs_X0_runLaid) (hf := jx_nh) jo_X0_ok hc_X0_runLaid (jx_HK_nil rfl) (fun p => p == 14) 40 ?_
          simp only [jw, ju, jx_tg, Int.cast_ofNat_Int, Int.reduceAdd, Int.reduceToNat, Nat.reduceAdd, Nat.reduceMul, Nat.reduceBEq, Nat.reduceLeDiff, Int.reduceLE, Int.reduceLT, Int.reduceEq, Int.reduceNeg, Int.reduceSub, Int.reduceMul, not_false_eq_true, true_and, and_true, and_self, Bool.or_false, Bool.false_or, Bool.or_true, Bool.true_or, List.length_nil, List.length_cons, Nat.zero_le, or_true, true_or, Nat.le_refl, ↓reduceIte, Nat.reduceEqDiff, forall_const, false_and, and_false, false_implies, implies_true, not_true_eq_false, or_false, false_or, ne_eq, jd_X0_runLaid, jd_X0_runLaid_1, jf_X0, eb', rb, js_J10_max, js_X0_begin, js_X0_named, js_X0_namesOf, js_X0_workY, js_X3_clear, cs_X0_runLaid, jx_ck_c]
          exact ⟨by omega, by omega, by omega, ⟨⟨by omega, by omega⟩, ⟨by omega, by omega⟩⟩, nx _ _ _ _ _⟩
        rw [hM1] at at36
        refine jx_runL (o := jo_X0) (cs := cs_X0_runLaid) (hf := jx_nh) jo_X0_ok hc_X0_runLaid (jx_HK_nil rfl) (fun p => p == 36 || p == 76) 40 ?_
        simp only [jw, ju, jx_tg, Int.cast_ofNat_Int, Int.reduceAdd, Int.reduceToNat, Nat.reduceAdd, Nat.reduceMul, Nat.reduceBEq, Nat.reduceLeDiff, Int.reduceLE, Int.reduceLT, Int.reduceEq, Int.reduceNeg, Int.reduceSub, Int.reduceMul, not_false_eq_true, true_and, and_true, and_self, Bool.or_false, Bool.false_or, Bool.or_true, Bool.true_or, List.length_nil, List.length_cons, Nat.zero_le, or_true, true_or, Nat.le_refl, ↓reduceIte, Nat.reduceEqDiff, forall_const, false_and, and_false, false_implies, implies_true, not_true_eq_false, or_false, false_or, ne_eq, jd_X0_runLaid, jd_X0_runLaid_1, jf_X0, r5, js_J10_max, js_X0_begin, js_X0_named, js_X0_namesOf, js_X0_workY, js_X3_clear, cs_X0_runLaid, jx_ck_c]
        exact ⟨by omega, fun z => by omega, fun _ => ⟨S, ⟨x0, hC.2.1, hL', hW, c0, by omega, by omega⟩, by omega, at36 _ _ _ _ _⟩⟩
    have I0 := xI_0 x0 hr hl hz
    have I1 : xI x r 1 S g M S (jx_u (mu_clear M r) r 5 1) := by
      obtain ⟨i1, i2, i3, i4, i5⟩ := I0
      refine ⟨i1, fun z k a b c d => ?_, rSl_c i3 (fun z k w => jx_u_a _ _ _ _ _ _ (by unfold qSl at w; unfold xr3 at hr; omega)), jx_u_eq _ _ _ _, fun k k0 k1 k5 => ?_⟩
      · rw [jx_u_a _ _ _ _ _ _ b]; exact i2 z k a b c d
      · rw [jx_u_j _ _ _ _ _ _ k5]; exact i5 k k0 k1 k5
    have st := fun P5 P6 P7 P8 P9 => pre (S 0 9).toNat 0 _ P5 P6 P7 P8 P9 (by omega) I1 (fun q q0 q1 => by omega)
    rw [if_pos rfl] at st
    refine jx_runL (o := jo_X0) (cs := cs_X0_runLaid) (hf := jx_nh) jo_X0_ok hc_X0_runLaid (jx_HK_nil rfl) (fun p => p == 14) 40 ?_
    simp only [jw, ju, jx_tg, Int.cast_ofNat_Int, Int.reduceAdd, Int.reduceToNat, Nat.reduceAdd, Nat.reduceMul, Nat.reduceBEq, Nat.reduceLeDiff, Int.reduceLE, Int.reduceLT, Int.reduceEq, Int.reduceNeg, Int.reduceSub, Int.reduceMul, not_false_eq_true, true_and, and_true, and_self, Bool.or_false, Bool.false_or, Bool.or_true, Bool.true_or, List.length_nil, List.length_cons, Nat.zero_le, or_true, true_or, Nat.le_refl, ↓reduceIte, Nat.reduceEqDiff, forall_const, false_and, and_false, false_implies, implies_true, not_true_eq_false, or_false, false_or, ne_eq, jd_X0_runLaid, jd_X0_runLaid_1, jf_X0, js_J10_max, js_X0_begin, js_X0_named, js_X0_namesOf, js_X0_workY, js_X3_clear, cs_X0_runLaid, jx_ck_c]
    exact st _ _ _ _ _
  · exact hS.elim
