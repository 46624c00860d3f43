/-! LoopLane: changed, added -/
set_option maxRecDepth 100000
def rCh (x : Int) (S : jx_M) (M M' : jx_M) : Prop := rEd x S M' ∧ M' x 25 = 0 ∧ (M' (x + 37) 0 = 0 ∧ M' (x + 37) 1 = -1 ∧ M' (x + 37) 2 = -1 ∧ M' (x + 37) 3 = 0 ∧ M' (x + 37) 4 = 0 ∧ M' (x + 37) 5 = 0 ∧ M' (x + 37) 6 = 0) ∧
  ∀ z k : Int, ¬ (x + 26 ≤ z ∧ z ≤ x + 29) → ¬ (z = x ∧ 23 ≤ k ∧ k ≤ 25) → z ≠ x + 37 → z ≠ x + 38 → M' z k = M z k
theorem mu_clear_c {M : jx_M} {r : Int} : (mu_clear M r r 0 = 0 ∧ mu_clear M r r 1 = -1 ∧ mu_clear M r r 2 = -1 ∧ mu_clear M r r 3 = 0 ∧ mu_clear M r r 4 = 0 ∧ mu_clear M r r 5 = 0 ∧ mu_clear M r r 6 = 0) ∧ ∀ z k : Int, z ≠ r → z ≠ r + 1 → mu_clear M r z k = M z k := by
  have e : ∀ k, mu_clear M r r k = jx_u (jx_u (jx_u (jx_u (jx_u (jx_u (jx_u M r 0 0) r 1 (-1)) r 2 (-1)) r 3 0) r 4 0) r 5 0) r 6 0 r k := fun k => by
    unfold mu_clear mu_zero
    rw [if_neg (by omega)]
  refine ⟨⟨?_, ?_, ?_, ?_, ?_, ?_, ?_⟩, fun z k h1 h2 => ?_⟩
  · rw [e]; simp [jx_u]
  · rw [e]; simp [jx_u]
  · rw [e]; simp [jx_u]
  · rw [e]; simp [jx_u]
  · rw [e]; simp [jx_u]
  · rw [e]; simp [jx_u]
  · rw [e]; simp [jx_u]
  · unfold mu_clear mu_zero
    rw [if_neg (by omega)]
    simp [jx_u, h1]
def js_X0_changed : jx_Sp := fun as g M Po => match as with
  | [(60, _, x)] => ∃ S, (0 ≤ x ∧ rBd x S g M ∧ mB S) ∧ ∀ M', rCh x S M M' → Po (3, 0, 0) g M'
  | _ => False
def cs_X0_changed : jx_Cs := [(492, 1, 0, 0, js_X0_findEdges), (516, 1, 0, 0, js_X3_clear)]
theorem hc_X0_changed {D : jx_D} {l : Launch} : jx_CsOK D l "LoopLane" 4 cs_X0_changed := List.forall_mem_cons.mpr ⟨jc_X0_164 (jt_X0_findEdges l) (fun as g M Po (h : js_X0_findEdges as g M Po) => by unfold js_X0_findEdges at h; split at h <;> first | exact h.elim | exact ⟨_, _, _, rfl, rfl⟩) (by decide), List.forall_mem_cons.mpr ⟨jc_X0_172 (jt_X3_clear l) (fun as g M Po (h : js_X3_clear as g M Po) => by unfold js_X3_clear at h; split at h <;> first | exact h.elim | exact ⟨_, _, _, rfl, rfl⟩) (by decide), fun _ h => absurd h List.not_mem_nil⟩⟩
set_option maxHeartbeats 4000000 in
theorem jt_X0_changed (l : Launch) : jx_Ct l yX0_changed (ws_ yX0_changed cX0_changed 1 none) 4 0 0 js_X0_changed := by
  refine jx_Ct_c (rc := 3) (by decide) rfl (fun D as g M Po hS => ?_)
  unfold js_X0_changed at hS
  split at hS
  · rename_i n1 x
    obtain ⟨S, ⟨hx, hR, hB⟩, hP⟩ := hS
    refine ⟨Nat.le_of_ble_eq_true rfl, ?_⟩
    refine jx_runL (o := jo_X0) (cs := cs_X0_changed) (hf := jx_nh) jo_X0_ok hc_X0_changed (jx_HK_nil rfl) (fun _ => false) 20 ?_
    simp only [jw, ju, jx_tg, Int.cast_ofNat_Int, Int.reduceAdd, Int.reduceToNat, Nat.reduceAdd, Nat.reduceMul, Nat.reduceBEq, Nat.reduceLeDiff, Int.reduceLE, Int.reduceLT, Int.reduceEq, Int.reduceNeg, Int.reduceSub, Int.reduceMul, not_false_eq_true, true_and, and_true, and_self, Bool.or_false, Bool.false_or, Bool.or_true, Bool.true_or, List.length_nil, List.length_cons, Nat.zero_le, or_true, true_or, Nat.le_refl, ↓reduceIte, Nat.reduceEqDiff, forall_const, false_and, and_false, false_implies, implies_true, not_true_eq_false, or_false, false_or, ne_eq, jd_X0_changed, jf_X0, js_X0_findEdges, js_X3_clear, cs_X0_changed, jx_ck_c]
    have R1 : rBd x S g (jx_u M x 25 0) := rBd_c hB.1.2 hR (fun z k q => if_neg (by unfold qBd at q; omega))
    refine ⟨S, ⟨hx, R1, hB⟩, fun M' k1 => hP _ ?_⟩
    have c := mu_clear_c (M := M') (r := x + 37)
    have cc : ∀ z k : Int, z ≠ x + 37 → z ≠ x + 38 → mu_clear M' (x + 37) z k = M' z k := fun z k h1 h2 => c.2 z k h1 (by omega)
    refine ⟨rEd_c k1.1 (fun z k q => cc z k (by unfold qEd at q; omega) (by unfold qEd at q; omega)), ?_, c.1, fun z k q1 q2 q3 q4 => ?_⟩
    · rw [cc _ _ (by omega) (by omega), k1.2 x 25 (by omega) (by omega), jx_u_eq]
    · rw [cc _ _ q3 q4, k1.2 z k q1 (by omega), show jx_u M x 25 0 z k = M z k from if_neg (by omega)]
  · exact hS.elim
/-- the body has changed -/
theorem mu_changes_0 {S : jx_M} {k : Int} (h : k < 27 ∨ (27 < k ∧ k < 38)) : mu_changes S 0 0 k = S 0 k := by
  unfold mu_changes mu_forget
  rw [jx_u_j _ _ _ _ _ _ (by omega), jx_u_j _ _ _ _ _ _ (by omega), jx_u_j _ _ _ _ _ _ (by omega), jx_u_j _ _ _ _ _ _ (by omega), jx_u_j _ _ _ _ _ _ (by omega), jx_u_j _ _ _ _ _ _ (by omega), jx_u_j _ _ _ _ _ _ (by omega), jx_u_j _ _ _ _ _ _ (by omega)]
theorem mu_changes_j {S : jx_M} {j : Int} (h : j ≠ 0) : mu_changes S 0 j = S j := by
  unfold mu_changes mu_forget
  rw [jx_u_row h, jx_u_row h, jx_u_row h, jx_u_row h, jx_u_row h, jx_u_row h, jx_u_row h, jx_u_row h]
theorem mu_changes_v {S : jx_M} : mu_changes S 0 0 27 = 0 ∧ mu_changes S 0 0 38 = 0 ∧ mu_changes S 0 0 39 = -1 ∧ mu_changes S 0 0 40 = -1 ∧ mu_changes S 0 0 41 = 0 ∧ mu_changes S 0 0 42 = 0 ∧ mu_changes S 0 0 43 = 0 ∧ mu_changes S 0 0 44 = 0 := by
  unfold mu_changes mu_forget
  simp [jx_u]
theorem mu_changes_Z {S : jx_M} : mZ S (mu_changes S 0) := ⟨fun j a b => mu_changes_j (by omega), mu_changes_0 (by decide), mu_changes_0 (by decide)⟩
theorem rR_ch {x : Int} {S : jx_M} {g : jx_S} {M M' : jx_M} (hS : S 0 9 ≤ 16) (h1 : rSh x g) (h2 : rBd x S g M) (h3 : rMs x S M) (h4 : rSl x S g M) (hc : rCh x S M M') : rR x (mu_changes S 0) g M' := by
  have v := mu_changes_v (S := S)
  have z := mu_changes_Z (S := S)
  obtain ⟨c1, c2, c3, c4⟩ := hc
  refine ⟨h1, ?_, rEd_Z z c1, ?_, ?_, ?_, ?_⟩
  · exact rBd_Z z (rBd_c hS h2 (fun z k q => c4 z k (by unfold qBd at q; omega) (by unfold qBd at q; omega) (by unfold qBd at q; omega) (by unfold qBd at q; omega)))
  · refine ⟨?_, fun w => absurd v.1 w⟩
    rw [if_pos v.1]
    exact c2
  · refine ⟨?_, fun w => by rw [v.2.2.2.2.2.2.2] at w; omega⟩
    rw [v.2.1, v.2.2.1, v.2.2.2.1, v.2.2.2.2.1, v.2.2.2.2.2.1, v.2.2.2.2.2.2.1, v.2.2.2.2.2.2.2]
    exact c3
  · exact rMs_S (rMs_c h3 (fun z k q => c4 z k (by unfold qMs at q; omega) (by unfold qMs at q; omega) (by unfold qMs at q; omega) (by unfold qMs at q; omega))) (mu_changes_0 (by decide)) (mu_changes_0 (by decide)) (mu_changes_j (by decide)) (mu_changes_j (by decide))
  · exact rSl_S (rSl_c h4 (fun z k q => c4 z k (by have := h1.1; unfold qSl at q; omega) (by unfold qSl at q; omega) (by unfold qSl at q; omega) (by unfold qSl at q; omega))) (mu_changes_j (by decide)) (mu_changes_j (by decide)) (mu_changes_j (by decide))
theorem rFr_ch {x : Int} {S : jx_M} {g g' : jx_S} {M M1 M' : jx_M} (h : rFr x g M g' M1) (hc : rCh x S M1 M') : rFr x g M g' M' := ⟨h.1, fun z i q => (hc.2.2.2 z i (by omega) (by omega) (by omega) (by omega)).trans (h.2 z i q)⟩
theorem jx_castA {k : Nat} (h : 66 ≤ k ∧ k ≤ 72) : ∃ q, jx_cl (jx_bk k) = some q ∧ Cond.castable q.1 "LoopLane$Act" ∈ jx_nl := by
  rcases (show k = 66 ∨ k = 67 ∨ k = 68 ∨ k = 69 ∨ k = 70 ∨ k = 71 ∨ k = 72 by omega) with rfl | rfl | rfl | rfl | rfl | rfl | rfl
  · exact ⟨_, rfl, jx_nlm q1583 rfl⟩
  · exact ⟨_, rfl, jx_nlm q1584 rfl⟩
  · exact ⟨_, rfl, jx_nlm q1585 rfl⟩
  · exact ⟨_, rfl, jx_nlm q1586 rfl⟩
  · exact ⟨_, rfl, jx_nlm q1587 rfl⟩
  · exact ⟨_, rfl, jx_nlm q1588 rfl⟩
  · exact ⟨_, rfl, jx_nlm q1589 rfl⟩
def xu_add (M : jx_M) (x a : Int) : jx_M := jx_u (jx_u M (x + 13) (M x 5) a) x 5 (M x 5 + 1)
def js_X0_added : jx_Sp := fun as g M Po => match as with
  | [(60, _, x), (80, n, a)] => (xk g a n ∧ 0 ≤ x ∧ (0 ≤ M x 5 ∧ M x 5 < 16)) ∧ ∃ S, (rBd x S g (xu_add M x a) ∧ mB S) ∧ ∀ M', rCh x S (xu_add M x a) M' → Po (0, 0, M x 5) g M'
  | _ => False
def cs_X0_added : jx_Cs := [(1152, 1, 0, 0, js_X0_changed)]
theorem hc_X0_added {D : jx_D} {l : Launch} : jx_CsOK D l "LoopLane" 5 cs_X0_added := List.forall_mem_cons.mpr ⟨jc_X0_384 (jt_X0_changed l) (fun as g M Po (h : js_X0_changed as g M Po) => by unfold js_X0_changed at h; split at h <;> first | exact h.elim | exact ⟨_, _, _, rfl, rfl⟩) (by decide), fun _ h => absurd h List.not_mem_nil⟩
set_option maxHeartbeats 4000000 in
theorem jt_X0_added (l : Launch) : jx_Ct l yX0_added (ws_ yX0_added cX0_added 2 (some .int)) 5 0 0 js_X0_added := by
  refine jx_Ct_c (rc := 0) (by decide) rfl (fun D as g M Po hS => ?_)
  unfold js_X0_added at hS
  split at hS
  · rename_i n1 x n a
    obtain ⟨⟨hk, hx, hm⟩, S, ⟨hR, hB⟩, hP⟩ := hS
    refine ⟨Nat.le_of_ble_eq_true rfl, ?_⟩
    refine jx_runL (o := jo_X0) (cs := cs_X0_added) (hf := jx_nh) jo_X0_ok hc_X0_added (jx_HK_nil rfl) (fun p => p == 9) 20 ?_
    simp only [jw, ju, jx_tg, Int.cast_ofNat_Int, Int.reduceAdd, Int.reduceToNat, Nat.reduceAdd, Nat.reduceMul, Nat.reduceBEq, Nat.reduceLeDiff, Int.reduceLE, Int.reduceLT, Int.reduceEq, Int.reduceNeg, Int.reduceSub, Int.reduceMul, not_false_eq_true, true_and, and_true, and_self, Bool.or_false, Bool.false_or, Bool.or_true, Bool.true_or, List.length_nil, List.length_cons, Nat.zero_le, or_true, true_or, Nat.le_refl, ↓reduceIte, Nat.reduceEqDiff, forall_const, false_and, and_false, false_implies, implies_true, not_true_eq_false, or_false, false_or, ne_eq, jd_X0_added, jf_X0, js_X0_changed, cs_X0_added, jx_ck_c]
    refine jx_rng fun _ hs => ?_
    have hg := jx_okk (hs _ (List.mem_cons_of_mem _ (List.mem_cons_of_mem _ List.mem_cons_self))) (by decide) (by decide)
    obtain ⟨q, q1, q2⟩ := jx_castA hk.1
    refine jx_s_aastore (C0 := "LoopLane$Act") (by decide +kernel) (by decide) (by decide) hg (.inr rfl) rfl (fun _ => rfl) hm (by have := hk.1; omega) q1 (.inl q2) ?_
    refine jx_runL (o := jo_X0) (cs := cs_X0_added) (hf := jx_nh) jo_X0_ok hc_X0_added (jx_HK_nil rfl) (fun _ => false) 30 ?_
    simp only [jw, ju, jx_tg, Int.cast_ofNat_Int, Int.reduceAdd, Int.reduceToNat, Nat.reduceAdd, Nat.reduceMul, Nat.reduceBEq, Nat.reduceLeDiff, Int.reduceLE, Int.reduceLT, Int.reduceEq, Int.reduceNeg, Int.reduceSub, Int.reduceMul, not_false_eq_true, true_and, and_true, and_self, Bool.or_false, Bool.false_or, Bool.or_true, Bool.true_or, List.length_nil, List.length_cons, Nat.zero_le, or_true, true_or, Nat.le_refl, ↓reduceIte, Nat.reduceEqDiff, forall_const, false_and, and_false, false_implies, implies_true, not_true_eq_false, or_false, false_or, ne_eq, jd_X0_added, jf_X0, js_X0_changed, cs_X0_added, jx_ck_c]
    refine ⟨S, ⟨hx, hR, hB⟩, fun M' k1 => ?_⟩
    have e5 : M' x 5 = M x 5 + 1 := by rw [k1.2.2.2 x 5 (by omega) (by omega) (by omega) (by omega)]; exact jx_u_eq _ _ _ _
    rw [e5, show M x 5 + 1 - 1 = M x 5 by omega]
    exact hP M' k1
  · exact hS.elim
def ja_added : jx_Sp := fun as g M Po => match as with
  | [(60, n1, x), (t, n, a)] => (10 ≤ t ∧ 0 ≤ a) ∧ js_X0_added [(60, n1, x), (80, n, a)] g M Po
  | _ => False
theorem jz_added {D : jx_D} {l : Launch} {d : Nat} (hd : 6 ≤ d) : jx_CS D l "LoopLane" d (jx_op 1185) 2 0 0 ja_added := by
  intro as g M Po hS
  unfold ja_added at hS
  split at hS
  rotate_left
  · exact hS.elim
  rename_i n1 x t n a
  obtain ⟨⟨ht, h0⟩, hP⟩ := hS
  have hk : xk g a n := hP.1.1
  refine jx_CR_re (as' := [(60, n1, x), (80, n, a)]) (jt_X0_added l) hP (congrArg (fun v => [jx_cv (60, n1, x), v]) ((jx_cv_ref (by decide) h0).trans (jx_cv_ref (by omega) h0).symm)) (fun hok => ?_) rfl (by omega) (by decide) (jx_ws1 q562) (jx_hasCode_c q562) q73 ?_
  · refine jx_ok_cons (hok _ List.mem_cons_self) (jx_ok_cons ⟨fun z => (by have z : (80 : Nat) = 1 := z; omega), fun _ => ⟨?_, hk.2.1⟩, fun _ => (by decide : jx_nr 80)⟩ (fun _ h => absurd h List.not_mem_nil))
    have := hk.1
    simp only [jx_in, ↓reduceIte]
    exact this
  · intro p e R s m args below meth c T locs cells slots M X hexec hown hts hE hR hok
    exact jx_Go_V (as := [(t, n, a)]) (by decide) (jx_in_1 rfl (by decide : 60 < 80) _ ((hok _ List.mem_cons_self).2.1 (by decide : 10 ≤ 60)).1) q559 q561 qs3 (hh := []) (.inl q562) (show jx_sg yX0_added 1 from jx_sg_of (by decide +kernel)) ⟨by decide, by decide⟩ p e R s m args below meth c T locs cells slots M X hexec hown hts hE hR hok
