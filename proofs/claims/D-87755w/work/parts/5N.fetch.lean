/-! LoopLane: fetch, store, pick -/
set_option maxRecDepth 100000
theorem aM_f {x p q s v i di : Int} {M : jx_M} (p61 : x + 61 ≤ p) (hn : mm_nop q = 1) (hq : q ≠ 0) : aM x p q s v (o3 i (-1) (-1)) (o3 di (-1) (-1)) M (xu_add (xu_take (jx_u (xu_begin M p 1) p 7 s) p 0 i di) x p) := by
  refine aM_of p61 (fun z k hz => ?_) ⟨?_, ?_, ?_, ?_, ?_⟩ (fun a a0 a1 => ?_) (fun c => by omega) (fun w => by unfold xu_take xu_begin; simp (disch := omega) only [jx_u_a, jx_u_j, jx_u_eq])
  · unfold xu_take xu_begin; simp (disch := omega) only [jx_u_a]
  · unfold xu_take xu_begin; simp (disch := omega) only [jx_u_a, jx_u_j, jx_u_eq]
  · unfold xu_take xu_begin; simp (disch := omega) only [jx_u_a, jx_u_j, jx_u_eq]
  · unfold xu_take xu_begin; simp (disch := omega) only [jx_u_a, jx_u_j, jx_u_eq]
  · unfold xu_take xu_begin; simp (disch := omega) only [jx_u_a, jx_u_j, jx_u_eq]
  · unfold xu_take xu_begin; simp (disch := omega) only [jx_u_a, jx_u_j, jx_u_eq]; exact hn.symm
  · rw [hn] at a1
    have ea : a = 0 := by omega
    subst ea
    constructor <;> (unfold xu_take xu_begin; simp (disch := omega) only [jx_u_a, jx_u_j, jx_u_eq]; rfl)
theorem aM_s {x p q s v i di j dj : Int} {M : jx_M} (p61 : x + 61 ≤ p) (hn : mm_nop q = 2) (hq : q ≠ 0) : aM x p q s v (o3 i j (-1)) (o3 di dj (-1)) M (xu_add (xu_take (xu_take (jx_u (xu_begin M p 2) p 7 s) p 0 i di) p 1 j dj) x p) := by
  refine aM_of p61 (fun z k hz => ?_) ⟨?_, ?_, ?_, ?_, ?_⟩ (fun a a0 a1 => ?_) (fun c => by omega) (fun w => by unfold xu_take xu_begin; simp (disch := omega) only [jx_u_a, jx_u_j, jx_u_eq])
  · unfold xu_take xu_begin; simp (disch := omega) only [jx_u_a]
  · unfold xu_take xu_begin; simp (disch := omega) only [jx_u_a, jx_u_j, jx_u_eq]
  · unfold xu_take xu_begin; simp (disch := omega) only [jx_u_a, jx_u_j, jx_u_eq]
  · unfold xu_take xu_begin; simp (disch := omega) only [jx_u_a, jx_u_j, jx_u_eq]
  · unfold xu_take xu_begin; simp (disch := omega) only [jx_u_a, jx_u_j, jx_u_eq]
  · unfold xu_take xu_begin; simp (disch := omega) only [jx_u_a, jx_u_j, jx_u_eq]; exact hn.symm
  · rw [hn] at a1
    rcases (show a = 0 ∨ a = 1 by omega) with rfl | rfl
    · constructor <;> (unfold xu_take xu_begin; simp (disch := omega) only [jx_u_a, jx_u_j, jx_u_eq]; rfl)
    · constructor <;> (unfold xu_take xu_begin; simp (disch := omega) only [jx_u_a, jx_u_j, jx_u_eq]; rfl)
theorem aM_p {x p q s v i j k dk : Int} {M : jx_M} (p61 : x + 61 ≤ p) (hn : mm_nop q = 3) (hq : q = 6) : aM x p q s v (o3 i j k) (o3 0 0 dk) M (xu_add (xu_take (xu_ops M p 3 i 0 j 0) p 2 k dk) x p) := by
  refine aM_of p61 (fun z k hz => ?_) ⟨?_, ?_, ?_, ?_, ?_⟩ (fun a a0 a1 => ?_) (fun c => by omega) (fun w => by omega)
  · unfold xu_ops xu_take xu_begin; simp (disch := omega) only [jx_u_a]
  · unfold xu_ops xu_take xu_begin; simp (disch := omega) only [jx_u_a, jx_u_j, jx_u_eq]
  · unfold xu_ops xu_take xu_begin; simp (disch := omega) only [jx_u_a, jx_u_j, jx_u_eq]
  · unfold xu_ops xu_take xu_begin; simp (disch := omega) only [jx_u_a, jx_u_j, jx_u_eq]
  · unfold xu_ops xu_take xu_begin; simp (disch := omega) only [jx_u_a, jx_u_j, jx_u_eq]
  · unfold xu_ops xu_take xu_begin; simp (disch := omega) only [jx_u_a, jx_u_j, jx_u_eq]; exact hn.symm
  · rw [hn] at a1
    rcases (show a = 0 ∨ a = 1 ∨ a = 2 by omega) with rfl | rfl | rfl
    · constructor <;> (unfold xu_ops xu_take xu_begin; simp (disch := omega) only [jx_u_a, jx_u_j, jx_u_eq]; rfl)
    · constructor <;> (unfold xu_ops xu_take xu_begin; simp (disch := omega) only [jx_u_a, jx_u_j, jx_u_eq]; rfl)
    · constructor <;> (unfold xu_ops xu_take xu_begin; simp (disch := omega) only [jx_u_a, jx_u_j, jx_u_eq]; rfl)
theorem aS_op2 {S S1 : jx_M} {q s v z dz : Int} {o d o' d' : Int → Int} (h : aS S S1 q s v o d) (e0 : ∀ i, 0 ≤ i → i < 2 → o' i = o i ∧ d' i = d i) (e2 : o' 2 = z ∧ d' 2 = dz) : aS S (mu_op S1 0 (3 * S 0 9 + 2) z dz) q s v o' d' := by
  unfold mu_op
  simp only [Int.zero_add]
  obtain ⟨⟨h1, h2, h3, h4⟩, ha, hk, he, ⟨n1, n2, n3, n4, n5, n8, n9⟩, hi⟩ := h
  have t : ∀ j k, j ≠ 6 → j ≠ 7 → jx_u (jx_u S1 6 (3 * S 0 9 + 2) z) 7 (3 * S 0 9 + 2) dz j k = S1 j k := fun j k a b => by rw [jx_u_a _ _ _ _ _ _ b, jx_u_a _ _ _ _ _ _ a]
  have tr : ∀ j, j ≠ 6 → j ≠ 7 → jx_u (jx_u S1 6 (3 * S 0 9 + 2) z) 7 (3 * S 0 9 + 2) dz j = S1 j := fun j a b => funext fun k => t j k a b
  have t6 : ∀ k, k ≠ 3 * S 0 9 + 2 → jx_u (jx_u S1 6 (3 * S 0 9 + 2) z) 7 (3 * S 0 9 + 2) dz 6 k = S1 6 k := fun k a => by rw [jx_u_a _ _ _ _ _ _ (by decide), jx_u_j _ _ _ _ _ _ a]
  have t7 : ∀ k, k ≠ 3 * S 0 9 + 2 → jx_u (jx_u S1 6 (3 * S 0 9 + 2) z) 7 (3 * S 0 9 + 2) dz 7 k = S1 7 k := fun k a => by rw [jx_u_j _ _ _ _ _ _ a, jx_u_a _ _ _ _ _ _ (by decide)]
  refine ⟨?_, fun a c => ?_, fun k c => ?_, ?_, ?_, fun i i0 i1 => ?_⟩
  · rw [t 0 9 (by decide) (by decide), t 0 15 (by decide) (by decide), t 0 32 (by decide) (by decide), t 0 26 (by decide) (by decide)]; exact ⟨h1, h2, h3, h4⟩
  · rw [t 1 a (by decide) (by decide), t 2 a (by decide) (by decide), t 3 a (by decide) (by decide), t 4 a (by decide) (by decide), t 5 a (by decide) (by decide), t 8 a (by decide) (by decide), t 9 a (by decide) (by decide)]; exact ha a c
  · rw [t6 k (by omega), t7 k (by omega)]; exact hk k c
  · rw [tr 10 (by decide) (by decide), tr 11 (by decide) (by decide), tr 12 (by decide) (by decide), tr 13 (by decide) (by decide), tr 14 (by decide) (by decide), tr 19 (by decide) (by decide), tr 21 (by decide) (by decide), tr 22 (by decide) (by decide), tr 23 (by decide) (by decide), tr 31 (by decide) (by decide)]; exact he
  · rw [t 1 _ (by decide) (by decide), t 2 _ (by decide) (by decide), t 3 _ (by decide) (by decide), t 4 _ (by decide) (by decide), t 5 _ (by decide) (by decide), t 8 _ (by decide) (by decide), t 9 _ (by decide) (by decide)]; exact ⟨n1, n2, n3, n4, n5, n8, n9⟩
  · by_cases c : i = 2
    · rw [c, jx_u_a _ _ _ _ _ _ (by decide), jx_u_eq, jx_u_eq, e2.1, e2.2]
      exact ⟨rfl, rfl⟩
    · rw [t6 _ (by omega), t7 _ (by omega), (e0 i i0 (by omega)).1, (e0 i i0 (by omega)).2]
      exact hi i i0 i1
theorem mu_changes_op {M : jx_M} {i x d : Int} : mu_op (mu_changes M 0) 0 i x d = mu_changes (mu_op M 0 i x d) 0 := by
  unfold mu_op
  rw [mu_changes_u (by decide), mu_changes_u (by decide)]
def js_X0_fetch : jx_Sp := fun as g M Po => match as with
  | [(60, _, x), (0, _, s), (0, _, i), (0, _, di)] => ∃ S, (rR x S g M ∧ mW S ∧ (jx_r s ∧ jx_r i ∧ jx_r di)) ∧ rK x g M Po 0 (f_fetch s i di S).1 (f_fetch s i di S).2
  | _ => False
def cs_X0_fetch : jx_Cs := [(1135, 3, 0, 0, js_X0_isIn), (789, 3, 0, 0, js_X0_need), (1203, 2, 0, 0, js_X0_needBack), (1212, 3, 0, 0, js_X0_needAct), (1266, 2, 0, 0, ja_beginF), (1275, 4, 0, 0, ja_takeF), (1185, 2, 0, 0, ja_added), (1161, 2, 0, 0, js_X0_refuse)]
theorem hc_X0_fetch {D : jx_D} {l : Launch} : jx_CsOK D l "LoopLane" 6 cs_X0_fetch := List.forall_mem_cons.mpr ⟨jc_X0_378 (jt_X0_isIn l) (fun as g M Po (h : js_X0_isIn as g M Po) => by unfold js_X0_isIn at h; split at h <;> first | exact h.elim | exact rfl) (by decide), List.forall_mem_cons.mpr ⟨jc_X0_263 (jt_X0_need l) (fun as g M Po (h : js_X0_need as g M Po) => by unfold js_X0_need at h; split at h <;> first | exact h.elim | exact ⟨_, _, _, rfl, rfl⟩) (by decide), List.forall_mem_cons.mpr ⟨jc_X0_401 (jt_X0_needBack l) (fun as g M Po (h : js_X0_needBack as g M Po) => by unfold js_X0_needBack at h; split at h <;> first | exact h.elim | exact ⟨_, _, _, rfl, rfl⟩) (by decide), List.forall_mem_cons.mpr ⟨jc_X0_404 (jt_X0_needAct l) (fun as g M Po (h : js_X0_needAct as g M Po) => by unfold js_X0_needAct at h; split at h <;> first | exact h.elim | exact ⟨_, _, _, rfl, rfl⟩) (by decide), List.forall_mem_cons.mpr ⟨jz_beginF (by decide), List.forall_mem_cons.mpr ⟨jz_takeF (by decide), List.forall_mem_cons.mpr ⟨jz_added (by decide), List.forall_mem_cons.mpr ⟨jc_X0_387 (jt_X0_refuse l) (fun as g M Po (h : js_X0_refuse as g M Po) => by unfold js_X0_refuse at h; split at h <;> first | exact h.elim | exact ⟨_, _, _, rfl, rfl⟩) (by decide), fun _ h => absurd h List.not_mem_nil⟩⟩⟩⟩⟩⟩⟩⟩
abbrev th_X0_fetch : List (Nat × Nat × Nat × Nat) := [(0, 83, 84, 315)]
theorem jh_X0_fetch : jx_hf th_X0_fetch 2 1 = none ∧ jx_hf th_X0_fetch 2 2 = none ∧ jx_hf th_X0_fetch 2 3 = none ∧ jx_hf th_X0_fetch 2 4 = none ∧ jx_hf th_X0_fetch 2 5 = none ∧ jx_hf th_X0_fetch 2 6 = some 84 ∧ jx_hf th_X0_fetch 12 1 = none ∧ jx_hf th_X0_fetch 12 2 = none ∧ jx_hf th_X0_fetch 12 3 = none ∧ jx_hf th_X0_fetch 12 4 = none ∧ jx_hf th_X0_fetch 12 5 = none ∧ jx_hf th_X0_fetch 12 6 = some 84 ∧ jx_hf th_X0_fetch 17 1 = none ∧ jx_hf th_X0_fetch 17 2 = none ∧ jx_hf th_X0_fetch 17 3 = none ∧ jx_hf th_X0_fetch 17 4 = none ∧ jx_hf th_X0_fetch 17 5 = none ∧ jx_hf th_X0_fetch 17 6 = some 84 ∧ jx_hf th_X0_fetch 23 1 = none ∧ jx_hf th_X0_fetch 23 2 = none ∧ jx_hf th_X0_fetch 23 3 = none ∧ jx_hf th_X0_fetch 23 4 = none ∧ jx_hf th_X0_fetch 23 5 = none ∧ jx_hf th_X0_fetch 23 6 = some 84 ∧ jx_hf th_X0_fetch 43 1 = none ∧ jx_hf th_X0_fetch 43 2 = none ∧ jx_hf th_X0_fetch 43 3 = none ∧ jx_hf th_X0_fetch 43 4 = none ∧ jx_hf th_X0_fetch 43 5 = none ∧ jx_hf th_X0_fetch 43 6 = some 84 ∧ jx_hf th_X0_fetch 60 1 = none ∧ jx_hf th_X0_fetch 60 2 = none ∧ jx_hf th_X0_fetch 60 3 = none ∧ jx_hf th_X0_fetch 60 4 = none ∧ jx_hf th_X0_fetch 60 5 = none ∧ jx_hf th_X0_fetch 60 6 = some 84 ∧ jx_hf th_X0_fetch 74 1 = none ∧ jx_hf th_X0_fetch 74 2 = none ∧ jx_hf th_X0_fetch 74 3 = none ∧ jx_hf th_X0_fetch 74 4 = none ∧ jx_hf th_X0_fetch 74 5 = none ∧ jx_hf th_X0_fetch 74 6 = some 84 ∧ jx_hf th_X0_fetch 80 1 = none ∧ jx_hf th_X0_fetch 80 2 = none ∧ jx_hf th_X0_fetch 80 3 = none ∧ jx_hf th_X0_fetch 80 4 = none ∧ jx_hf th_X0_fetch 80 5 = none ∧ jx_hf th_X0_fetch 80 6 = some 84 ∧ jx_hf th_X0_fetch 92 1 = none ∧ jx_hf th_X0_fetch 92 2 = none ∧ jx_hf th_X0_fetch 92 3 = none ∧ jx_hf th_X0_fetch 92 4 = none ∧ jx_hf th_X0_fetch 92 5 = none ∧ jx_hf th_X0_fetch 92 6 = none := by refine ⟨?_, ?_, ?_, ?_, ?_, ?_, ?_, ?_, ?_, ?_, ?_, ?_, ?_, ?_, ?_, ?_, ?_, ?_, ?_, ?_, ?_, ?_, ?_, ?_, ?_, ?_, ?_, ?_, ?_, ?_, ?_, ?_, ?_, ?_, ?_, ?_, ?_, ?_, ?_, ?_, ?_, ?_, ?_, ?_, ?_, ?_, ?_, ?_, ?_, ?_, ?_, ?_, ?_, ?_⟩ <;> rfl
theorem jk_X0_fetch : ∀ q ∈ th_X0_fetch, jx_ct q.2.2.2 := by unfold th_X0_fetch; simp [jx_ct]
set_option maxHeartbeats 4000000 in
theorem jt_X0_fetch (l : Launch) : jx_Ct l yX0_fetch (wsW_ yX0_fetch cX0_fetch 5 (some .int) th_X0_fetch) 6 0 0 js_X0_fetch := by
  refine jx_Ct_w (rc := 0) (by decide) rfl (fun D as g M Po hS => ?_)
  unfold js_X0_fetch at hS
  split at hS
  · rename_i n1 x n2 s n3 i n4 di
    obtain ⟨S, ⟨hR, hW, rs, ri, rdi⟩, hK⟩ := hS
    have hB := hW.1
    have h9 := hB.1
    have x0 := hR.1.1
    have r5 := hR.2.1.1
    unfold f_fetch at hK
    simp only [rK_ite, mno] at hK
    refine ⟨Nat.le_of_ble_eq_true rfl, ?_⟩
    have r9 : jx_r (S 0 9) := ⟨by omega, by omega⟩
    have atH : ∀ (z k : Int) (P : jx_A), 1 ≤ k → k ≤ 11 → z = x + 49 + k → rK x g M Po 0 (-k) (mu_no S 0 (-k)) → jx_V D l (yX0_fetch.cls, cX0_fetch, 5, 0, th_X0_fetch, 6, 0, 0, yX0_fetch.name) Po 84 [(60, n1, x), (0, n2, s), (0, n3, i), (0, n4, di), P] [(64, 0, z)] (0, 0) g M := by
      intro z k P k1 k2 hz hk
      have e6 := hR.2.2.2.2.2.1.2.2.2.2 k k1 k2
      rw [← hz] at e6
      refine jx_runL (o := jo_X0) (cs := cs_X0_fetch) (hf := jx_hf th_X0_fetch) jo_X0_ok hc_X0_fetch (jx_HK_LL rfl jk_X0_fetch) (fun _ => false) 20 ?_
      simp only [jw, ju, jx_tg, Int.cast_ofNat_Int, Int.reduceAdd, Int.reduceToNat, Nat.reduceAdd, Nat.reduceMul, Nat.reduceBEq, Nat.reduceLeDiff, Int.reduceLE, Int.reduceLT, Int.reduceEq, Int.reduceNeg, Int.reduceSub, Int.reduceMul, not_false_eq_true, true_and, and_true, and_self, Bool.or_false, Bool.false_or, Bool.or_true, Bool.true_or, List.length_nil, List.length_cons, Nat.zero_le, or_true, true_or, Nat.le_refl, ↓reduceIte, Nat.reduceEqDiff, forall_const, false_and, and_false, false_implies, implies_true, not_true_eq_false, or_false, false_or, ne_eq, jd_X0_fetch, jf_X0, e6, ja_added, ja_beginF, ja_takeF, js_X0_isIn, js_X0_need, js_X0_needAct, js_X0_needBack, js_X0_refuse, cs_X0_fetch, jx_ck_c, jh_X0_fetch, jx_ex]
      exact ⟨by omega, rK_no h9.2 (by omega) hR rFr_rf hk⟩
    have go : (0 ≤ di ∧ di ≤ 4) → (0 ≤ s ∧ s ≤ 7) → mm_okop (S 0 9) i di → ¬ 16 ≤ S 0 9 → jx_V D l (yX0_fetch.cls, cX0_fetch, 5, 0, th_X0_fetch, 6, 0, 0, yX0_fetch.name) Po 46 [(60, n1, x), (0, n2, s), (0, n3, i), (0, n4, di), (5, 0, 0)] [] (0, 0) g (M) := by
      intro c1 c2 c3 c6
      obtain ⟨p, hp⟩ : ∃ p, p = x + 61 + 21 * S 0 9 + 3 * 4 := ⟨_, rfl⟩
      have sh := hR.1.2.2 (S 0 9) 4 h9.1 (by omega) (by decide) (by decide)
      rw [← hp] at sh
      have p61 : x + 61 ≤ p := by omega
      have e5 : xu_take (jx_u (xu_begin M p 1) p 7 s) p 0 i di x 5 = S 0 9 := by unfold xu_take xu_begin; simp (disch := omega) only [jx_u_a]; exact r5
      refine jx_runL (o := jo_X0) (cs := cs_X0_fetch) (hf := jx_hf th_X0_fetch) jo_X0_ok hc_X0_fetch (jx_HK_LL rfl jk_X0_fetch) (fun p => p == 77) 60 ?_
      simp only [jw, ju, jx_tg, Int.cast_ofNat_Int, Int.reduceAdd, Int.reduceToNat, Nat.reduceAdd, Nat.reduceMul, Nat.reduceBEq, Nat.reduceLeDiff, Int.reduceLE, Int.reduceLT, Int.reduceEq, Int.reduceNeg, Int.reduceSub, Int.reduceMul, not_false_eq_true, true_and, and_true, and_self, Bool.or_false, Bool.false_or, Bool.or_true, Bool.true_or, List.length_nil, List.length_cons, Nat.zero_le, or_true, true_or, Nat.le_refl, ↓reduceIte, Nat.reduceEqDiff, forall_const, false_and, and_false, false_implies, implies_true, not_true_eq_false, or_false, false_or, ne_eq, jd_X0_fetch, jf_X0, r5, show x + 18 + (55 + 21 * S 0 9) = p by omega, ja_added, ja_beginF, ja_takeF, js_X0_isIn, js_X0_need, js_X0_needAct, js_X0_needBack, js_X0_refuse, cs_X0_fetch, jx_ck_c, jh_X0_fetch, jx_ex]
      refine ⟨by omega, ⟨⟨by omega, by omega⟩, sh.2, by omega⟩, ⟨⟨by omega, by omega⟩, sh.2, by omega⟩, ?_⟩
      refine jx_runL (o := jo_X0) (cs := cs_X0_fetch) (hf := jx_hf th_X0_fetch) jo_X0_ok hc_X0_fetch (jx_HK_LL rfl jk_X0_fetch) (fun _ => false) 30 ?_
      simp only [jw, ju, jx_tg, Int.cast_ofNat_Int, Int.reduceAdd, Int.reduceToNat, Nat.reduceAdd, Nat.reduceMul, Nat.reduceBEq, Nat.reduceLeDiff, Int.reduceLE, Int.reduceLT, Int.reduceEq, Int.reduceNeg, Int.reduceSub, Int.reduceMul, not_false_eq_true, true_and, and_true, and_self, Bool.or_false, Bool.false_or, Bool.or_true, Bool.true_or, List.length_nil, List.length_cons, Nat.zero_le, or_true, true_or, Nat.le_refl, ↓reduceIte, Nat.reduceEqDiff, forall_const, false_and, and_false, false_implies, implies_true, not_true_eq_false, or_false, false_or, ne_eq, jd_X0_fetch, jf_X0, js_X0_added, e5, ja_added, ja_beginF, ja_takeF, js_X0_isIn, js_X0_need, js_X0_needAct, js_X0_needBack, js_X0_refuse, cs_X0_fetch, jx_ck_c, jh_X0_fetch, jx_ex]
      have hS1 := aS_add1 (S := S) (w := 4) (s := s) (x := i) (dx := di) (z := -1) (dz := -1) (u := -1) (du := -1) (v := 0) (o := o3 i (-1) (-1)) (d := o3 di (-1) (-1)) h9.1 rfl rfl rfl rfl rfl rfl
      have hK2 := ((hK.1 c1).1 ⟨c2, c3⟩).2 (by omega)
      rw [mu_adds_1] at hK2
      refine add_fin hR hB hS1 (aM_f p61 rfl (by decide)) (by omega) (by decide) hp (mB_aS hB hS1 (by omega) (by decide) (by omega) (by omega) (fun a a0 a1 => ⟨fun q1 => ?_, fun q1 => ?_⟩)) hK2
      · have q1 : a < 1 := q1
        rw [show a = 0 by omega]
        exact ⟨c3.1, c1, c3.2⟩
      · have q1 : 1 ≤ a := q1
        rcases (show a = 1 ∨ a = 2 by omega) with rfl | rfl <;> exact ⟨rfl, rfl⟩
    refine jx_runL (o := jo_X0) (cs := cs_X0_fetch) (hf := jx_hf th_X0_fetch) jo_X0_ok hc_X0_fetch (jx_HK_LL rfl jk_X0_fetch) (fun p => p == 46 || p == 84) 60 ?_
    simp only [jw, ju, jx_tg, Int.cast_ofNat_Int, Int.reduceAdd, Int.reduceToNat, Nat.reduceAdd, Nat.reduceMul, Nat.reduceBEq, Nat.reduceLeDiff, Int.reduceLE, Int.reduceLT, Int.reduceEq, Int.reduceNeg, Int.reduceSub, Int.reduceMul, not_false_eq_true, true_and, and_true, and_self, Bool.or_false, Bool.false_or, Bool.or_true, Bool.true_or, List.length_nil, List.length_cons, Nat.zero_le, or_true, true_or, Nat.le_refl, ↓reduceIte, Nat.reduceEqDiff, forall_const, false_and, and_false, false_implies, implies_true, not_true_eq_false, or_false, false_or, ne_eq, jd_X0_fetch, jf_X0, r5, ja_added, ja_beginF, ja_takeF, js_X0_isIn, js_X0_need, js_X0_needAct, js_X0_needBack, js_X0_refuse, cs_X0_fetch, jx_ck_c, jh_X0_fetch, jx_ex]
    refine ⟨rdi, fun c1 => ⟨rs, fun c2 => ⟨by decide, ⟨ri, rdi, r9⟩, fun c3 => ⟨r9, fun c6 => ⟨by decide, ?_⟩, fun c6 => ⟨by decide, go c1 c2 ⟨c3.1, by omega⟩ c6⟩⟩, fun c3 => ?_⟩, fun c2 => ⟨by decide, ?_⟩⟩, fun c1 => ?_⟩
    · exact atH _ 10 _ (by decide) (by decide) (by omega) (((hK.1 c1).1 ⟨c2, c3.1, by omega⟩).1 (by omega))
    · exact atH _ 3 _ (by decide) (by decide) (by omega) ((hK.1 c1).2 (fun z => c3 ⟨z.2.1, by have := z.2.2; omega⟩))
    · exact atH _ 3 _ (by decide) (by decide) (by omega) ((hK.1 c1).2 (fun z => c2 z.1))
    · exact atH _ 9 _ (by decide) (by decide) (by omega) (hK.2 c1)
  · exact hS.elim
def js_X0_store : jx_Sp := fun as g M Po => match as with
  | [(60, _, x), (0, _, s), (0, _, i), (0, _, di), (0, _, j), (0, _, dj)] => ∃ S, (rR x S g M ∧ mW S ∧ (jx_r s ∧ jx_r i ∧ jx_r di ∧ jx_r j ∧ jx_r dj)) ∧ rK x g M Po 0 (f_store s i di j dj S).1 (f_store s i di j dj S).2
  | _ => False
def cs_X0_store : jx_Cs := [(1135, 3, 0, 0, js_X0_isIn), (789, 3, 0, 0, js_X0_need), (1203, 2, 0, 0, js_X0_needBack), (1212, 3, 0, 0, js_X0_needAct), (1266, 2, 0, 0, ja_beginS), (1275, 4, 0, 0, ja_takeS), (1185, 2, 0, 0, ja_added), (1161, 2, 0, 0, js_X0_refuse)]
theorem hc_X0_store {D : jx_D} {l : Launch} : jx_CsOK D l "LoopLane" 6 cs_X0_store := List.forall_mem_cons.mpr ⟨jc_X0_378 (jt_X0_isIn l) (fun as g M Po (h : js_X0_isIn as g M Po) => by unfold js_X0_isIn at h; split at h <;> first | exact h.elim | exact rfl) (by decide), List.forall_mem_cons.mpr ⟨jc_X0_263 (jt_X0_need l) (fun as g M Po (h : js_X0_need as g M Po) => by unfold js_X0_need at h; split at h <;> first | exact h.elim | exact ⟨_, _, _, rfl, rfl⟩) (by decide), List.forall_mem_cons.mpr ⟨jc_X0_401 (jt_X0_needBack l) (fun as g M Po (h : js_X0_needBack as g M Po) => by unfold js_X0_needBack at h; split at h <;> first | exact h.elim | exact ⟨_, _, _, rfl, rfl⟩) (by decide), List.forall_mem_cons.mpr ⟨jc_X0_404 (jt_X0_needAct l) (fun as g M Po (h : js_X0_needAct as g M Po) => by unfold js_X0_needAct at h; split at h <;> first | exact h.elim | exact ⟨_, _, _, rfl, rfl⟩) (by decide), List.forall_mem_cons.mpr ⟨jz_beginS (by decide), List.forall_mem_cons.mpr ⟨jz_takeS (by decide), List.forall_mem_cons.mpr ⟨jz_added (by decide), List.forall_mem_cons.mpr ⟨jc_X0_387 (jt_X0_refuse l) (fun as g M Po (h : js_X0_refuse as g M Po) => by unfold js_X0_refuse at h; split at h <;> first | exact h.elim | exact ⟨_, _, _, rfl, rfl⟩) (by decide), fun _ h => absurd h List.not_mem_nil⟩⟩⟩⟩⟩⟩⟩⟩
abbrev th_X0_store : List (Nat × Nat × Nat × Nat) := [(0, 107, 108, 315)]
theorem jh_X0_store : jx_hf th_X0_store 2 1 = none ∧ jx_hf th_X0_store 2 2 = none ∧ jx_hf th_X0_store 2 3 = none ∧ jx_hf th_X0_store 2 4 = none ∧ jx_hf th_X0_store 2 5 = none ∧ jx_hf th_X0_store 2 6 = some 108 ∧ jx_hf th_X0_store 8 1 = none ∧ jx_hf th_X0_store 8 2 = none ∧ jx_hf th_X0_store 8 3 = none ∧ jx_hf th_X0_store 8 4 = none ∧ jx_hf th_X0_store 8 5 = none ∧ jx_hf th_X0_store 8 6 = some 108 ∧ jx_hf th_X0_store 18 1 = none ∧ jx_hf th_X0_store 18 2 = none ∧ jx_hf th_X0_store 18 3 = none ∧ jx_hf th_X0_store 18 4 = none ∧ jx_hf th_X0_store 18 5 = none ∧ jx_hf th_X0_store 18 6 = some 108 ∧ jx_hf th_X0_store 23 1 = none ∧ jx_hf th_X0_store 23 2 = none ∧ jx_hf th_X0_store 23 3 = none ∧ jx_hf th_X0_store 23 4 = none ∧ jx_hf th_X0_store 23 5 = none ∧ jx_hf th_X0_store 23 6 = some 108 ∧ jx_hf th_X0_store 29 1 = none ∧ jx_hf th_X0_store 29 2 = none ∧ jx_hf th_X0_store 29 3 = none ∧ jx_hf th_X0_store 29 4 = none ∧ jx_hf th_X0_store 29 5 = none ∧ jx_hf th_X0_store 29 6 = some 108 ∧ jx_hf th_X0_store 37 1 = none ∧ jx_hf th_X0_store 37 2 = none ∧ jx_hf th_X0_store 37 3 = none ∧ jx_hf th_X0_store 37 4 = none ∧ jx_hf th_X0_store 37 5 = none ∧ jx_hf th_X0_store 37 6 = some 108 ∧ jx_hf th_X0_store 57 1 = none ∧ jx_hf th_X0_store 57 2 = none ∧ jx_hf th_X0_store 57 3 = none ∧ jx_hf th_X0_store 57 4 = none ∧ jx_hf th_X0_store 57 5 = none ∧ jx_hf th_X0_store 57 6 = some 108 ∧ jx_hf th_X0_store 74 1 = none ∧ jx_hf th_X0_store 74 2 = none ∧ jx_hf th_X0_store 74 3 = none ∧ jx_hf th_X0_store 74 4 = none ∧ jx_hf th_X0_store 74 5 = none ∧ jx_hf th_X0_store 74 6 = some 108 ∧ jx_hf th_X0_store 88 1 = none ∧ jx_hf th_X0_store 88 2 = none ∧ jx_hf th_X0_store 88 3 = none ∧ jx_hf th_X0_store 88 4 = none ∧ jx_hf th_X0_store 88 5 = none ∧ jx_hf th_X0_store 88 6 = some 108 ∧ jx_hf th_X0_store 98 1 = none ∧ jx_hf th_X0_store 98 2 = none ∧ jx_hf th_X0_store 98 3 = none ∧ jx_hf th_X0_store 98 4 = none ∧ jx_hf th_X0_store 98 5 = none ∧ jx_hf th_X0_store 98 6 = some 108 ∧ jx_hf th_X0_store 104 1 = none ∧ jx_hf th_X0_store 104 2 = none ∧ jx_hf th_X0_store 104 3 = none ∧ jx_hf th_X0_store 104 4 = none ∧ jx_hf th_X0_store 104 5 = none ∧ jx_hf th_X0_store 104 6 = some 108 ∧ jx_hf th_X0_store 116 1 = none ∧ jx_hf th_X0_store 116 2 = none ∧ jx_hf th_X0_store 116 3 = none ∧ jx_hf th_X0_store 116 4 = none ∧ jx_hf th_X0_store 116 5 = none ∧ jx_hf th_X0_store 116 6 = none := by refine ⟨?_, ?_, ?_, ?_, ?_, ?_, ?_, ?_, ?_, ?_, ?_, ?_, ?_, ?_, ?_, ?_, ?_, ?_, ?_, ?_, ?_, ?_, ?_, ?_, ?_, ?_, ?_, ?_, ?_, ?_, ?_, ?_, ?_, ?_, ?_, ?_, ?_, ?_, ?_, ?_, ?_, ?_, ?_, ?_, ?_, ?_, ?_, ?_, ?_, ?_, ?_, ?_, ?_, ?_, ?_, ?_, ?_, ?_, ?_, ?_, ?_, ?_, ?_, ?_, ?_, ?_, ?_, ?_, ?_, ?_, ?_, ?_⟩ <;> rfl
theorem jk_X0_store : ∀ q ∈ th_X0_store, jx_ct q.2.2.2 := by unfold th_X0_store; simp [jx_ct]
set_option maxHeartbeats 4000000 in
theorem jt_X0_store (l : Launch) : jx_Ct l yX0_store (wsW_ yX0_store cX0_store 7 (some .int) th_X0_store) 6 0 0 js_X0_store := by
  refine jx_Ct_w (rc := 0) (by decide) rfl (fun D as g M Po hS => ?_)
  unfold js_X0_store at hS
  split at hS
  · rename_i n1 x n2 s n3 i n4 di n5 j n6 dj
    obtain ⟨S, ⟨hR, hW, rs, ri, rdi, rj, rdj⟩, hK⟩ := hS
    have hB := hW.1
    have h9 := hB.1
    have x0 := hR.1.1
    have r5 := hR.2.1.1
    unfold f_store at hK
    simp only [rK_ite, mno] at hK
    refine ⟨Nat.le_of_ble_eq_true rfl, ?_⟩
    have r9 : jx_r (S 0 9) := ⟨by omega, by omega⟩
    have atH : ∀ (z k : Int) (P : jx_A), 1 ≤ k → k ≤ 11 → z = x + 49 + k → rK x g M Po 0 (-k) (mu_no S 0 (-k)) → jx_V D l (yX0_store.cls, cX0_store, 7, 0, th_X0_store, 6, 0, 0, yX0_store.name) Po 108 [(60, n1, x), (0, n2, s), (0, n3, i), (0, n4, di), (0, n5, j), (0, n6, dj), P] [(64, 0, z)] (0, 0) g M := by
      intro z k P k1 k2 hz hk
      have e6 := hR.2.2.2.2.2.1.2.2.2.2 k k1 k2
      rw [← hz] at e6
      refine jx_runL (o := jo_X0) (cs := cs_X0_store) (hf := jx_hf th_X0_store) jo_X0_ok hc_X0_store (jx_HK_LL rfl jk_X0_store) (fun _ => false) 20 ?_
      simp only [jw, ju, jx_tg, Int.cast_ofNat_Int, Int.reduceAdd, Int.reduceToNat, Nat.reduceAdd, Nat.reduceMul, Nat.reduceBEq, Nat.reduceLeDiff, Int.reduceLE, Int.reduceLT, Int.reduceEq, Int.reduceNeg, Int.reduceSub, Int.reduceMul, not_false_eq_true, true_and, and_true, and_self, Bool.or_false, Bool.false_or, Bool.or_true, Bool.true_or, List.length_nil, List.length_cons, Nat.zero_le, or_true, true_or, Nat.le_refl, ↓reduceIte, Nat.reduceEqDiff, forall_const, false_and, and_false, false_implies, implies_true, not_true_eq_false, or_false, false_or, ne_eq, jd_X0_store, jf_X0, e6, ja_added, ja_beginS, ja_takeS, js_X0_isIn, js_X0_need, js_X0_needAct, js_X0_needBack, js_X0_refuse, cs_X0_store, jx_ck_c, jh_X0_store, jx_ex]
      exact ⟨by omega, rK_no h9.2 (by omega) hR rFr_rf hk⟩
    have go : (0 ≤ di ∧ di ≤ 4) → (0 ≤ dj ∧ dj ≤ 4) → (0 ≤ s ∧ s ≤ 7) → mm_okop (S 0 9) i di → mm_okop (S 0 9) j dj → ¬ 16 ≤ S 0 9 → jx_V D l (yX0_store.cls, cX0_store, 7, 0, th_X0_store, 6, 0, 0, yX0_store.name) Po 60 [(60, n1, x), (0, n2, s), (0, n3, i), (0, n4, di), (0, n5, j), (0, n6, dj), (5, 0, 0)] [] (0, 0) g (M) := by
      intro c1 c1' c2 c3 c4 c6
      obtain ⟨p, hp⟩ : ∃ p, p = x + 61 + 21 * S 0 9 + 3 * 5 := ⟨_, rfl⟩
      have sh := hR.1.2.2 (S 0 9) 5 h9.1 (by omega) (by decide) (by decide)
      rw [← hp] at sh
      have p61 : x + 61 ≤ p := by omega
      have e5 : xu_take (xu_take (jx_u (xu_begin M p 2) p 7 s) p 0 i di) p 1 j dj x 5 = S 0 9 := by unfold xu_take xu_begin; simp (disch := omega) only [jx_u_a]; exact r5
      refine jx_runL (o := jo_X0) (cs := cs_X0_store) (hf := jx_hf th_X0_store) jo_X0_ok hc_X0_store (jx_HK_LL rfl jk_X0_store) (fun p => p == 101) 60 ?_
      simp only [jw, ju, jx_tg, Int.cast_ofNat_Int, Int.reduceAdd, Int.reduceToNat, Nat.reduceAdd, Nat.reduceMul, Nat.reduceBEq, Nat.reduceLeDiff, Int.reduceLE, Int.reduceLT, Int.reduceEq, Int.reduceNeg, Int.reduceSub, Int.reduceMul, not_false_eq_true, true_and, and_true, and_self, Bool.or_false, Bool.false_or, Bool.or_true, Bool.true_or, List.length_nil, List.length_cons, Nat.zero_le, or_true, true_or, Nat.le_refl, ↓reduceIte, Nat.reduceEqDiff, forall_const, false_and, and_false, false_implies, implies_true, not_true_eq_false, or_false, false_or, ne_eq, jd_X0_store, jf_X0, r5, show x + 19 + (57 + 21 * S 0 9) = p by omega, ja_added, ja_beginS, ja_takeS, js_X0_isIn, js_X0_need, js_X0_needAct, js_X0_needBack, js_X0_refuse, cs_X0_store, jx_ck_c, jh_X0_store, jx_ex]
      refine ⟨by omega, ⟨⟨by omega, by omega⟩, sh.2, by omega⟩, ⟨⟨by omega, by omega⟩, sh.2, by omega⟩, ⟨⟨by omega, by omega⟩, sh.2, by omega⟩, ?_⟩
      refine jx_runL (o := jo_X0) (cs := cs_X0_store) (hf := jx_hf th_X0_store) jo_X0_ok hc_X0_store (jx_HK_LL rfl jk_X0_store) (fun _ => false) 30 ?_
      simp only [jw, ju, jx_tg, Int.cast_ofNat_Int, Int.reduceAdd, Int.reduceToNat, Nat.reduceAdd, Nat.reduceMul, Nat.reduceBEq, Nat.reduceLeDiff, Int.reduceLE, Int.reduceLT, Int.reduceEq, Int.reduceNeg, Int.reduceSub, Int.reduceMul, not_false_eq_true, true_and, and_true, and_self, Bool.or_false, Bool.false_or, Bool.or_true, Bool.true_or, List.length_nil, List.length_cons, Nat.zero_le, or_true, true_or, Nat.le_refl, ↓reduceIte, Nat.reduceEqDiff, forall_const, false_and, and_false, false_implies, implies_true, not_true_eq_false, or_false, false_or, ne_eq, jd_X0_store, jf_X0, js_X0_added, e5, ja_added, ja_beginS, ja_takeS, js_X0_isIn, js_X0_need, js_X0_needAct, js_X0_needBack, js_X0_refuse, cs_X0_store, jx_ck_c, jh_X0_store, jx_ex]
      have hS1 := aS_add1 (S := S) (w := 5) (s := s) (x := i) (dx := di) (z := j) (dz := dj) (u := -1) (du := -1) (v := 0) (o := o3 i j (-1)) (d := o3 di dj (-1)) h9.1 rfl rfl rfl rfl rfl rfl
      have hK2 := ((hK.1 ⟨c1, c1'⟩).1 ⟨c2, c3, c4⟩).2 (by omega)
      rw [mu_adds_1] at hK2
      refine add_fin hR hB hS1 (aM_s p61 rfl (by decide)) (by omega) (by decide) hp (mB_aS hB hS1 (by omega) (by decide) (by omega) (by omega) (fun a a0 a1 => ⟨fun q1 => ?_, fun q1 => ?_⟩)) hK2
      · have q1 : a < 2 := q1
        rcases (show a = 0 ∨ a = 1 by omega) with rfl | rfl
        · exact ⟨c3.1, c1, c3.2⟩
        · exact ⟨c4.1, c1', c4.2⟩
      · have q1 : 2 ≤ a := q1
        rw [show a = 2 by omega]
        exact ⟨rfl, rfl⟩
    refine jx_runL (o := jo_X0) (cs := cs_X0_store) (hf := jx_hf th_X0_store) jo_X0_ok hc_X0_store (jx_HK_LL rfl jk_X0_store) (fun p => p == 60 || p == 108) 60 ?_
    simp only [jw, ju, jx_tg, Int.cast_ofNat_Int, Int.reduceAdd, Int.reduceToNat, Nat.reduceAdd, Nat.reduceMul, Nat.reduceBEq, Nat.reduceLeDiff, Int.reduceLE, Int.reduceLT, Int.reduceEq, Int.reduceNeg, Int.reduceSub, Int.reduceMul, not_false_eq_true, true_and, and_true, and_self, Bool.or_false, Bool.false_or, Bool.or_true, Bool.true_or, List.length_nil, List.length_cons, Nat.zero_le, or_true, true_or, Nat.le_refl, ↓reduceIte, Nat.reduceEqDiff, forall_const, false_and, and_false, false_implies, implies_true, not_true_eq_false, or_false, false_or, ne_eq, jd_X0_store, jf_X0, r5, ja_added, ja_beginS, ja_takeS, js_X0_isIn, js_X0_need, js_X0_needAct, js_X0_needBack, js_X0_refuse, cs_X0_store, jx_ck_c, jh_X0_store, jx_ex]
    refine ⟨rdi, fun c1 => ⟨rdj, fun d1 => ⟨rs, fun c2 => ⟨by decide, ⟨ri, rdi, r9⟩, fun c3 => ⟨⟨rj, rdj, r9⟩, fun c4 => ⟨r9, fun c6 => ⟨by decide, ?_⟩, fun c6 => ⟨by decide, go c1 d1 c2 ⟨c3.1, by omega⟩ ⟨c4.1, by omega⟩ c6⟩⟩, fun c4 => ?_⟩, fun c3 => ?_⟩, fun c2 => ⟨by decide, ?_⟩⟩, fun d1 => ?_⟩, fun c1 => ?_⟩
    · exact atH _ 10 _ (by decide) (by decide) (by omega) (((hK.1 ⟨c1, d1⟩).1 ⟨c2, ⟨c3.1, by omega⟩, c4.1, by omega⟩).1 (by omega))
    · exact atH _ 3 _ (by decide) (by decide) (by omega) ((hK.1 ⟨c1, d1⟩).2 (fun z => c4 ⟨z.2.2.1, by have := z.2.2.2; omega⟩))
    · exact atH _ 3 _ (by decide) (by decide) (by omega) ((hK.1 ⟨c1, d1⟩).2 (fun z => c3 ⟨z.2.1.1, by have := z.2.1.2; omega⟩))
    · exact atH _ 3 _ (by decide) (by decide) (by omega) ((hK.1 ⟨c1, d1⟩).2 (fun z => c2 z.1))
    · exact atH _ 9 _ (by decide) (by decide) (by omega) (hK.2 (fun z => d1 z.2))
    · exact atH _ 9 _ (by decide) (by decide) (by omega) (hK.2 (fun z => c1 z.1))
  · exact hS.elim
def js_X0_pick : jx_Sp := fun as g M Po => match as with
  | [(60, _, x), (0, _, i), (0, _, j), (0, _, k), (0, _, dk)] => ∃ S, (rR x S g M ∧ mW S ∧ (jx_r i ∧ jx_r j ∧ jx_r k ∧ jx_r dk)) ∧ rK x g M Po 0 (f_pick i j k dk S).1 (f_pick i j k dk S).2
  | _ => False
def cs_X0_pick : jx_Cs := [(789, 3, 0, 0, js_X0_need), (1203, 2, 0, 0, js_X0_needBack), (1212, 3, 0, 0, js_X0_needAct), (1236, 2, 0, 0, ja_beginA), (1239, 4, 0, 0, ja_takeA), (1185, 2, 0, 0, ja_added), (1161, 2, 0, 0, js_X0_refuse)]
theorem hc_X0_pick {D : jx_D} {l : Launch} : jx_CsOK D l "LoopLane" 6 cs_X0_pick := List.forall_mem_cons.mpr ⟨jc_X0_263 (jt_X0_need l) (fun as g M Po (h : js_X0_need as g M Po) => by unfold js_X0_need at h; split at h <;> first | exact h.elim | exact ⟨_, _, _, rfl, rfl⟩) (by decide), List.forall_mem_cons.mpr ⟨jc_X0_401 (jt_X0_needBack l) (fun as g M Po (h : js_X0_needBack as g M Po) => by unfold js_X0_needBack at h; split at h <;> first | exact h.elim | exact ⟨_, _, _, rfl, rfl⟩) (by decide), List.forall_mem_cons.mpr ⟨jc_X0_404 (jt_X0_needAct l) (fun as g M Po (h : js_X0_needAct as g M Po) => by unfold js_X0_needAct at h; split at h <;> first | exact h.elim | exact ⟨_, _, _, rfl, rfl⟩) (by decide), List.forall_mem_cons.mpr ⟨jz_beginA (by decide), List.forall_mem_cons.mpr ⟨jz_takeA (by decide), List.forall_mem_cons.mpr ⟨jz_added (by decide), List.forall_mem_cons.mpr ⟨jc_X0_387 (jt_X0_refuse l) (fun as g M Po (h : js_X0_refuse as g M Po) => by unfold js_X0_refuse at h; split at h <;> first | exact h.elim | exact ⟨_, _, _, rfl, rfl⟩) (by decide), fun _ h => absurd h List.not_mem_nil⟩⟩⟩⟩⟩⟩⟩
abbrev th_X0_pick : List (Nat × Nat × Nat × Nat) := [(0, 93, 94, 315)]
theorem jh_X0_pick : jx_hf th_X0_pick 3 1 = none ∧ jx_hf th_X0_pick 3 2 = none ∧ jx_hf th_X0_pick 3 3 = none ∧ jx_hf th_X0_pick 3 4 = none ∧ jx_hf th_X0_pick 3 5 = none ∧ jx_hf th_X0_pick 3 6 = some 94 ∧ jx_hf th_X0_pick 9 1 = none ∧ jx_hf th_X0_pick 9 2 = none ∧ jx_hf th_X0_pick 9 3 = none ∧ jx_hf th_X0_pick 9 4 = none ∧ jx_hf th_X0_pick 9 5 = none ∧ jx_hf th_X0_pick 9 6 = some 94 ∧ jx_hf th_X0_pick 15 1 = none ∧ jx_hf th_X0_pick 15 2 = none ∧ jx_hf th_X0_pick 15 3 = none ∧ jx_hf th_X0_pick 15 4 = none ∧ jx_hf th_X0_pick 15 5 = none ∧ jx_hf th_X0_pick 15 6 = some 94 ∧ jx_hf th_X0_pick 22 1 = none ∧ jx_hf th_X0_pick 22 2 = none ∧ jx_hf th_X0_pick 22 3 = none ∧ jx_hf th_X0_pick 22 4 = none ∧ jx_hf th_X0_pick 22 5 = none ∧ jx_hf th_X0_pick 22 6 = some 94 ∧ jx_hf th_X0_pick 42 1 = none ∧ jx_hf th_X0_pick 42 2 = none ∧ jx_hf th_X0_pick 42 3 = none ∧ jx_hf th_X0_pick 42 4 = none ∧ jx_hf th_X0_pick 42 5 = none ∧ jx_hf th_X0_pick 42 6 = some 94 ∧ jx_hf th_X0_pick 59 1 = none ∧ jx_hf th_X0_pick 59 2 = none ∧ jx_hf th_X0_pick 59 3 = none ∧ jx_hf th_X0_pick 59 4 = none ∧ jx_hf th_X0_pick 59 5 = none ∧ jx_hf th_X0_pick 59 6 = some 94 ∧ jx_hf th_X0_pick 67 1 = none ∧ jx_hf th_X0_pick 67 2 = none ∧ jx_hf th_X0_pick 67 3 = none ∧ jx_hf th_X0_pick 67 4 = none ∧ jx_hf th_X0_pick 67 5 = none ∧ jx_hf th_X0_pick 67 6 = some 94 ∧ jx_hf th_X0_pick 75 1 = none ∧ jx_hf th_X0_pick 75 2 = none ∧ jx_hf th_X0_pick 75 3 = none ∧ jx_hf th_X0_pick 75 4 = none ∧ jx_hf th_X0_pick 75 5 = none ∧ jx_hf th_X0_pick 75 6 = some 94 ∧ jx_hf th_X0_pick 84 1 = none ∧ jx_hf th_X0_pick 84 2 = none ∧ jx_hf th_X0_pick 84 3 = none ∧ jx_hf th_X0_pick 84 4 = none ∧ jx_hf th_X0_pick 84 5 = none ∧ jx_hf th_X0_pick 84 6 = some 94 ∧ jx_hf th_X0_pick 90 1 = none ∧ jx_hf th_X0_pick 90 2 = none ∧ jx_hf th_X0_pick 90 3 = none ∧ jx_hf th_X0_pick 90 4 = none ∧ jx_hf th_X0_pick 90 5 = none ∧ jx_hf th_X0_pick 90 6 = some 94 ∧ jx_hf th_X0_pick 102 1 = none ∧ jx_hf th_X0_pick 102 2 = none ∧ jx_hf th_X0_pick 102 3 = none ∧ jx_hf th_X0_pick 102 4 = none ∧ jx_hf th_X0_pick 102 5 = none ∧ jx_hf th_X0_pick 102 6 = none := by refine ⟨?_, ?_, ?_, ?_, ?_, ?_, ?_, ?_, ?_, ?_, ?_, ?_, ?_, ?_, ?_, ?_, ?_, ?_, ?_, ?_, ?_, ?_, ?_, ?_, ?_, ?_, ?_, ?_, ?_, ?_, ?_, ?_, ?_, ?_, ?_, ?_, ?_, ?_, ?_, ?_, ?_, ?_, ?_, ?_, ?_, ?_, ?_, ?_, ?_, ?_, ?_, ?_, ?_, ?_, ?_, ?_, ?_, ?_, ?_, ?_, ?_, ?_, ?_, ?_, ?_, ?_⟩ <;> rfl
theorem jk_X0_pick : ∀ q ∈ th_X0_pick, jx_ct q.2.2.2 := by unfold th_X0_pick; simp [jx_ct]
set_option maxHeartbeats 4000000 in
theorem jt_X0_pick (l : Launch) : jx_Ct l yX0_pick (wsW_ yX0_pick cX0_pick 6 (some .int) th_X0_pick) 6 0 0 js_X0_pick := by
  refine jx_Ct_w (rc := 0) (by decide) rfl (fun D as g M Po hS => ?_)
  unfold js_X0_pick at hS
  split at hS
  · rename_i n1 x n2 i n3 j n4 k n5 dk
    obtain ⟨S, ⟨hR, hW, ri, rj, rk, rdk⟩, hK⟩ := hS
    have hB := hW.1
    have h9 := hB.1
    have x0 := hR.1.1
    have r5 := hR.2.1.1
    unfold f_pick at hK
    simp only [rK_ite, mno] at hK
    refine ⟨Nat.le_of_ble_eq_true rfl, ?_⟩
    have r9 : jx_r (S 0 9) := ⟨by omega, by omega⟩
    have atH : ∀ (z c : Int) (P : jx_A), 1 ≤ c → c ≤ 11 → z = x + 49 + c → rK x g M Po 0 (-c) (mu_no S 0 (-c)) → jx_V D l (yX0_pick.cls, cX0_pick, 6, 0, th_X0_pick, 6, 0, 0, yX0_pick.name) Po 94 [(60, n1, x), (0, n2, i), (0, n3, j), (0, n4, k), (0, n5, dk), P] [(64, 0, z)] (0, 0) g M := by
      intro z c P k1 k2 hz hk
      have e6 := hR.2.2.2.2.2.1.2.2.2.2 c k1 k2
      rw [← hz] at e6
      refine jx_runL (o := jo_X0) (cs := cs_X0_pick) (hf := jx_hf th_X0_pick) jo_X0_ok hc_X0_pick (jx_HK_LL rfl jk_X0_pick) (fun _ => false) 20 ?_
      simp only [jw, ju, jx_tg, Int.cast_ofNat_Int, Int.reduceAdd, Int.reduceToNat, Nat.reduceAdd, Nat.reduceMul, Nat.reduceBEq, Nat.reduceLeDiff, Int.reduceLE, Int.reduceLT, Int.reduceEq, Int.reduceNeg, Int.reduceSub, Int.reduceMul, not_false_eq_true, true_and, and_true, and_self, Bool.or_false, Bool.false_or, Bool.or_true, Bool.true_or, List.length_nil, List.length_cons, Nat.zero_le, or_true, true_or, Nat.le_refl, ↓reduceIte, Nat.reduceEqDiff, forall_const, false_and, and_false, false_implies, implies_true, not_true_eq_false, or_false, false_or, ne_eq, jd_X0_pick, jf_X0, e6, ja_added, ja_beginA, ja_takeA, js_X0_need, js_X0_needAct, js_X0_needBack, js_X0_refuse, cs_X0_pick, jx_ck_c, jh_X0_pick, jx_ex]
      exact ⟨by omega, rK_no h9.2 (by omega) hR rFr_rf hk⟩
    have go : (0 ≤ dk ∧ dk ≤ 4) → mm_okop (S 0 9) i 0 → mm_okop (S 0 9) j 0 → mm_okop (S 0 9) k dk → ¬ 16 ≤ S 0 9 → jx_V D l (yX0_pick.cls, cX0_pick, 6, 0, th_X0_pick, 6, 0, 0, yX0_pick.name) Po 45 [(60, n1, x), (0, n2, i), (0, n3, j), (0, n4, k), (0, n5, dk), (5, 0, 0)] [] (0, 0) g (M) := by
      intro c1 c2 c3 c4 c6
      obtain ⟨p, hp⟩ : ∃ p, p = x + 61 + 21 * S 0 9 + 3 * 6 := ⟨_, rfl⟩
      have sh := hR.1.2.2 (S 0 9) 6 h9.1 (by omega) (by decide) (by decide)
      rw [← hp] at sh
      have ki := rA_ki hR.1 ⟨h9.1, by omega⟩ (show (0 : Int) ≤ 6 ∧ (6 : Int) < 7 by decide) hp
      have p61 : x + 61 ≤ p := by omega
      have e5 : xu_take (xu_take (xu_take (xu_begin M p 3) p 0 i 0) p 1 j 0) p 2 k dk x 5 = S 0 9 := by unfold xu_take xu_begin; simp (disch := omega) only [jx_u_a]; exact r5
      refine jx_runL (o := jo_X0) (cs := cs_X0_pick) (hf := jx_hf th_X0_pick) jo_X0_ok hc_X0_pick (jx_HK_LL rfl jk_X0_pick) (fun p => p == 56) 60 ?_
      simp only [jw, ju, jx_tg, Int.cast_ofNat_Int, Int.reduceAdd, Int.reduceToNat, Nat.reduceAdd, Nat.reduceMul, Nat.reduceBEq, Nat.reduceLeDiff, Int.reduceLE, Int.reduceLT, Int.reduceEq, Int.reduceNeg, Int.reduceSub, Int.reduceMul, not_false_eq_true, true_and, and_true, and_self, Bool.or_false, Bool.false_or, Bool.or_true, Bool.true_or, List.length_nil, List.length_cons, Nat.zero_le, or_true, true_or, Nat.le_refl, ↓reduceIte, Nat.reduceEqDiff, forall_const, false_and, and_false, false_implies, implies_true, not_true_eq_false, or_false, false_or, ne_eq, jd_X0_pick, jf_X0, r5, show x + 20 + (59 + 21 * S 0 9) = p by omega, ja_added, ja_beginA, ja_takeA, js_X0_need, js_X0_needAct, js_X0_needBack, js_X0_refuse, cs_X0_pick, jx_ck_c, jh_X0_pick, jx_ex]
      refine ⟨by omega, ?_⟩
      refine jx_retag (ls' := [(60, n1, x), (0, n2, i), (0, n3, j), (0, n4, k), (0, n5, dk), (80, 0, p)]) (st' := []) (congrArg (fun v => [some (jx_cv (60, n1, x)), some (jx_cv (0, n2, i)), some (jx_cv (0, n3, j)), some (jx_cv (0, n4, k)), some (jx_cv (0, n5, dk)), v]) (congrArg some ((jx_cv_ref (by decide) (by omega)).trans (jx_cv_ref (by decide) (by omega)).symm))) rfl (fun hl hs => ⟨?_, hs⟩) ?_
      · intro q hq
        simp only [List.mem_cons, List.not_mem_nil, or_false] at hq
        rcases hq with rfl | rfl | rfl | rfl | rfl | rfl
        · exact hl _ (by simp)
        · exact hl _ (by simp)
        · exact hl _ (by simp)
        · exact hl _ (by simp)
        · exact hl _ (by simp)
        · refine ⟨fun z => (by have z : (80 : Nat) = 1 := z; omega), fun _ => ⟨?_, sh.2⟩, fun _ => (by decide : jx_nr 80)⟩
          simp only [jx_in, ↓reduceIte]
          exact ⟨by omega, by omega⟩
      refine jx_runL (o := jo_X0) (cs := cs_X0_pick) (hf := jx_hf th_X0_pick) jo_X0_ok hc_X0_pick (jx_HK_LL rfl jk_X0_pick) (fun p => p == 87) 60 ?_
      simp only [jw, ju, jx_tg, Int.cast_ofNat_Int, Int.reduceAdd, Int.reduceToNat, Nat.reduceAdd, Nat.reduceMul, Nat.reduceBEq, Nat.reduceLeDiff, Int.reduceLE, Int.reduceLT, Int.reduceEq, Int.reduceNeg, Int.reduceSub, Int.reduceMul, not_false_eq_true, true_and, and_true, and_self, Bool.or_false, Bool.false_or, Bool.or_true, Bool.true_or, List.length_nil, List.length_cons, Nat.zero_le, or_true, true_or, Nat.le_refl, ↓reduceIte, Nat.reduceEqDiff, forall_const, false_and, and_false, false_implies, implies_true, not_true_eq_false, or_false, false_or, ne_eq, jd_X0_pick, jf_X0, ja_added, ja_beginA, ja_takeA, js_X0_need, js_X0_needAct, js_X0_needBack, js_X0_refuse, cs_X0_pick, jx_ck_c, jh_X0_pick, jx_ex]
      refine ⟨ki, ki, ki, ki, ?_⟩
      refine jx_runL (o := jo_X0) (cs := cs_X0_pick) (hf := jx_hf th_X0_pick) jo_X0_ok hc_X0_pick (jx_HK_LL rfl jk_X0_pick) (fun _ => false) 30 ?_
      simp only [jw, ju, jx_tg, Int.cast_ofNat_Int, Int.reduceAdd, Int.reduceToNat, Nat.reduceAdd, Nat.reduceMul, Nat.reduceBEq, Nat.reduceLeDiff, Int.reduceLE, Int.reduceLT, Int.reduceEq, Int.reduceNeg, Int.reduceSub, Int.reduceMul, not_false_eq_true, true_and, and_true, and_self, Bool.or_false, Bool.false_or, Bool.or_true, Bool.true_or, List.length_nil, List.length_cons, Nat.zero_le, or_true, true_or, Nat.le_refl, ↓reduceIte, Nat.reduceEqDiff, forall_const, false_and, and_false, false_implies, implies_true, not_true_eq_false, or_false, false_or, ne_eq, jd_X0_pick, jf_X0, js_X0_added, e5, ja_added, ja_beginA, ja_takeA, js_X0_need, js_X0_needAct, js_X0_needBack, js_X0_refuse, cs_X0_pick, jx_ck_c, jh_X0_pick, jx_ex]
      have hS0 := aS_add1 (S := S) (w := 6) (s := -1) (x := i) (dx := 0) (z := j) (dz := 0) (u := -1) (du := -1) (v := 0) (o := o3 i j (-1)) (d := o3 0 0 (-1)) h9.1 rfl rfl rfl rfl rfl rfl
      have hS1 := aS_op2 (z := k) (dz := dk) (o' := o3 i j k) (d' := o3 0 0 dk) hS0 (fun a a0 a1 => by rcases (show a = 0 ∨ a = 1 by omega) with rfl | rfl <;> exact ⟨rfl, rfl⟩) ⟨rfl, rfl⟩
      have hK2 := ((hK.1 c1).1 ⟨c2, c3, c4⟩).2 (by omega)
      rw [mu_adds_1, mu_changes_op] at hK2
      refine add_fin hR hB hS1 (aM_p p61 rfl rfl) (by omega) (by decide) hp (mB_aS hB hS1 (by omega) (by decide) (by decide) (by decide) (fun a a0 a1 => ⟨fun q1 => ?_, fun q1 => ?_⟩)) hK2
      · rcases (show a = 0 ∨ a = 1 ∨ a = 2 by omega) with rfl | rfl | rfl
        · exact ⟨c2.1, (by decide : (0 : Int) ≤ 0 ∧ (0 : Int) ≤ 4), fun _ => c2.2 rfl⟩
        · exact ⟨c3.1, (by decide : (0 : Int) ≤ 0 ∧ (0 : Int) ≤ 4), fun _ => c3.2 rfl⟩
        · exact ⟨c4.1, c1, c4.2⟩
      · have q1 : 3 ≤ a := q1
        omega
    refine jx_runL (o := jo_X0) (cs := cs_X0_pick) (hf := jx_hf th_X0_pick) jo_X0_ok hc_X0_pick (jx_HK_LL rfl jk_X0_pick) (fun p => p == 45 || p == 94) 60 ?_
    simp only [jw, ju, jx_tg, Int.cast_ofNat_Int, Int.reduceAdd, Int.reduceToNat, Nat.reduceAdd, Nat.reduceMul, Nat.reduceBEq, Nat.reduceLeDiff, Int.reduceLE, Int.reduceLT, Int.reduceEq, Int.reduceNeg, Int.reduceSub, Int.reduceMul, not_false_eq_true, true_and, and_true, and_self, Bool.or_false, Bool.false_or, Bool.or_true, Bool.true_or, List.length_nil, List.length_cons, Nat.zero_le, or_true, true_or, Nat.le_refl, ↓reduceIte, Nat.reduceEqDiff, forall_const, false_and, and_false, false_implies, implies_true, not_true_eq_false, or_false, false_or, ne_eq, jd_X0_pick, jf_X0, r5, ja_added, ja_beginA, ja_takeA, js_X0_need, js_X0_needAct, js_X0_needBack, js_X0_refuse, cs_X0_pick, jx_ck_c, jh_X0_pick, jx_ex]
    refine ⟨rdk, fun c1 => ⟨⟨ri, by decide, r9⟩, fun c2 => ⟨⟨rj, by decide, r9⟩, fun c3 => ⟨⟨rk, rdk, r9⟩, fun c4 => ⟨r9, fun c6 => ⟨by decide, ?_⟩, fun c6 => ⟨by decide, go c1 ⟨c2.1, fun _ => c2.2⟩ ⟨c3.1, fun _ => c3.2⟩ ⟨c4.1, by omega⟩ c6⟩⟩, fun c4 => ?_⟩, fun c3 => ?_⟩, fun c2 => ?_⟩, fun c1 => ?_⟩
    · exact atH _ 10 _ (by decide) (by decide) (by omega) (((hK.1 c1).1 ⟨⟨c2.1, fun _ => c2.2⟩, ⟨c3.1, fun _ => c3.2⟩, c4.1, by omega⟩).1 (by omega))
    · exact atH _ 3 _ (by decide) (by decide) (by omega) ((hK.1 c1).2 (fun z => c4 ⟨z.2.2.1, by have := z.2.2.2; omega⟩))
    · exact atH _ 3 _ (by decide) (by decide) (by omega) ((hK.1 c1).2 (fun z => c3 ⟨z.2.1.1, z.2.1.2 rfl⟩))
    · exact atH _ 3 _ (by decide) (by decide) (by omega) ((hK.1 c1).2 (fun z => c2 ⟨z.1.1, z.1.2 rfl⟩))
    · exact atH _ 9 _ (by decide) (by decide) (by omega) (hK.2 c1)
  · exact hS.elim
