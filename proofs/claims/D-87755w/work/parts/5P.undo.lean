/-! LoopLane: undo -/
set_option maxRecDepth 100000
theorem mc_kept {p p1 p2 p3 last : Int} {M : jx_M} (hp : p ≠ p1 ∧ p ≠ p2 ∧ p ≠ p3 ∧ p1 ≠ p2 ∧ p1 ≠ p3 ∧ p2 ≠ p3) : ∀ (n : Nat) (k : Int), 0 ≤ k → k < mc_n p p1 last M n → ∃ e : Nat, e < n ∧ (M p e ≠ last ∧ M p1 e ≠ last) ∧ mc_M p p1 p2 p3 last M n p k = M p e ∧ mc_M p p1 p2 p3 last M n p1 k = M p1 e ∧ mc_M p p1 p2 p3 last M n p2 k = M p2 e ∧ mc_M p p1 p2 p3 last M n p3 k = M p3 e
  | 0, k, k0, k1 => by have k1 : k < 0 := k1; omega
  | n + 1, k, k0, k1 => by
    by_cases h : M p n ≠ last ∧ M p1 n ≠ last
    · rw [mc_n_y h] at k1
      rw [mc_M_y h]
      by_cases c : k = mc_n p p1 last M n
      · refine ⟨n, by omega, h, ?_⟩
        rw [c]
        refine ⟨?_, ?_, ?_, ?_⟩
        · rw [jx_u_a _ _ _ _ _ _ (by omega), jx_u_a _ _ _ _ _ _ (by omega), jx_u_a _ _ _ _ _ _ (by omega), jx_u_eq]
        · rw [jx_u_a _ _ _ _ _ _ (by omega), jx_u_a _ _ _ _ _ _ (by omega), jx_u_eq]
        · rw [jx_u_a _ _ _ _ _ _ (by omega), jx_u_eq]
        · rw [jx_u_eq]
      · obtain ⟨e, e1, e2, e3⟩ := mc_kept (last := last) (M := M) hp n k k0 (by omega)
        refine ⟨e, by omega, e2, ?_⟩
        rw [jx_u_j _ _ _ _ _ _ c, jx_u_j _ _ _ _ _ _ c, jx_u_j _ _ _ _ _ _ c, jx_u_j _ _ _ _ _ _ c, jx_u_j _ _ _ _ _ _ c, jx_u_j _ _ _ _ _ _ c, jx_u_j _ _ _ _ _ _ c, jx_u_j _ _ _ _ _ _ c, jx_u_j _ _ _ _ _ _ c, jx_u_j _ _ _ _ _ _ c, jx_u_j _ _ _ _ _ _ c, jx_u_j _ _ _ _ _ _ c, jx_u_j _ _ _ _ _ _ c, jx_u_j _ _ _ _ _ _ c, jx_u_j _ _ _ _ _ _ c, jx_u_j _ _ _ _ _ _ c]
        exact e3
    · rw [mc_n_n h] at k1
      rw [mc_M_n h]
      obtain ⟨e, e1, e2⟩ := mc_kept hp n k k0 k1
      exact ⟨e, by omega, e2⟩
/-- the class's told edges and the state's are compacted alike -/
theorem mc_like {x last : Int} {M S : jx_M} {m : Nat} (h : ∀ e, 0 ≤ e → e < (m : Int) → M (x + 22) e = S 11 e ∧ M (x + 23) e = S 12 e ∧ M (x + 24) e = S 13 e ∧ M (x + 25) e = S 14 e) : ∀ n : Nat, n ≤ m → mc_n (x + 22) (x + 23) last M n = mc_n 11 12 last S n ∧
    ∀ k, 0 ≤ k → k < (m : Int) → mc_M (x + 22) (x + 23) (x + 24) (x + 25) last M n (x + 22) k = mc_M 11 12 13 14 last S n 11 k ∧ mc_M (x + 22) (x + 23) (x + 24) (x + 25) last M n (x + 23) k = mc_M 11 12 13 14 last S n 12 k ∧ mc_M (x + 22) (x + 23) (x + 24) (x + 25) last M n (x + 24) k = mc_M 11 12 13 14 last S n 13 k ∧ mc_M (x + 22) (x + 23) (x + 24) (x + 25) last M n (x + 25) k = mc_M 11 12 13 14 last S n 14 k
  | 0, _ => ⟨rfl, fun k k0 k1 => h k k0 k1⟩
  | n + 1, hn => by
    obtain ⟨ih1, ih2⟩ := mc_like (last := last) h n (by omega)
    have e := h n (by omega) (by omega)
    by_cases c : S 11 n ≠ last ∧ S 12 n ≠ last
    · have c' : M (x + 22) n ≠ last ∧ M (x + 23) n ≠ last := by rw [e.1, e.2.1]; exact c
      rw [mc_n_y c, mc_n_y c', mc_M_y c, mc_M_y c', ih1, e.1, e.2.1, e.2.2.1, e.2.2.2]
      refine ⟨rfl, fun k k0 k1 => ?_⟩
      have ik := ih2 k k0 k1
      by_cases d : k = mc_n 11 12 last S n
      · rw [d] at ik ⊢
        refine ⟨?_, ?_, ?_, ?_⟩
        · simp (disch := omega) only [jx_u_a, jx_u_eq]
        · simp (disch := omega) only [jx_u_a, jx_u_eq]
        · simp (disch := omega) only [jx_u_a, jx_u_eq]
        · simp (disch := omega) only [jx_u_a, jx_u_eq]
      · simp (disch := exact d) only [jx_u_j]
        exact ik
    · have c' : ¬ (M (x + 22) n ≠ last ∧ M (x + 23) n ≠ last) := by rw [e.1, e.2.1]; exact c
      rw [mc_n_n c, mc_n_n c', mc_M_n c, mc_M_n c']
      exact ⟨ih1, ih2⟩
def js_X0_undo : jx_Sp := fun as g M Po => match as with
  | [(60, _, x)] => ∃ S, (rR x S g M ∧ mW S) ∧ rK x g M Po 0 (f_undo S).1 (f_undo S).2
  | _ => False
def cs_X0_undo : jx_Cs := [(1317, 2, 0, 0, js_X0_isTaken), (1161, 2, 0, 0, js_X0_refuse), (1152, 1, 0, 0, js_X0_changed)]
theorem hc_X0_undo {D : jx_D} {l : Launch} : jx_CsOK D l "LoopLane" 5 cs_X0_undo := List.forall_mem_cons.mpr ⟨jc_X0_439 (jt_X0_isTaken l) (fun as g M Po (h : js_X0_isTaken as g M Po) => by unfold js_X0_isTaken at h; split at h <;> first | exact h.elim | exact ⟨_, _, _, rfl, rfl⟩) (by decide), List.forall_mem_cons.mpr ⟨jc_X0_387 (jt_X0_refuse l) (fun as g M Po (h : js_X0_refuse as g M Po) => by unfold js_X0_refuse at h; split at h <;> first | exact h.elim | exact ⟨_, _, _, rfl, rfl⟩) (by decide), List.forall_mem_cons.mpr ⟨jc_X0_384 (jt_X0_changed l) (fun as g M Po (h : js_X0_changed as g M Po) => by unfold js_X0_changed at h; split at h <;> first | exact h.elim | exact ⟨_, _, _, rfl, rfl⟩) (by decide), fun _ h => absurd h List.not_mem_nil⟩⟩⟩
set_option maxHeartbeats 4000000 in
theorem jt_X0_undo (l : Launch) : jx_Ct l yX0_undo (ws_ yX0_undo cX0_undo 4 (some .int)) 5 0 0 js_X0_undo := by
  refine jx_Ct_c (rc := 0) (by decide) rfl (fun D as g M Po hS => ?_)
  unfold js_X0_undo at hS
  split at hS
  · rename_i n1 x
    obtain ⟨S, ⟨hR, hW⟩, hK⟩ := hS
    have hB := hW.1
    have h9 := hB.1
    have h15 := hB.2.1
    have x0 := hR.1.1
    have r5 := hR.2.1.1
    have r18 := hR.2.1.2.1
    unfold f_undo at hK
    simp only [rK_ite, mno] at hK
    refine ⟨Nat.le_of_ble_eq_true rfl, ?_⟩
    obtain ⟨last, hl⟩ : ∃ w, w = S 0 9 - 1 := ⟨_, rfl⟩
    obtain ⟨S', hS'⟩ : ∃ w, w = jx_u S 0 9 last := ⟨_, rfl⟩
    have s'r : ∀ j, j ≠ 0 → S' j = S j := fun j h => by rw [hS']; exact jx_u_row h
    have rt : ∀ e, 0 ≤ e → e < ((S 0 15).toNat : Int) → M (x + 22) e = S' 11 e ∧ M (x + 23) e = S' 12 e ∧ M (x + 24) e = S' 13 e ∧ M (x + 25) e = S' 14 e := fun e e0 e1 => by
      rw [s'r 11 (by decide), s'r 12 (by decide), s'r 13 (by decide), s'r 14 (by decide)]
      exact hR.2.1.2.2.2.2 e e0 (by omega)
    have lk := mc_like (last := last) rt
    have at125 : S 0 9 ≠ 0 → ¬ mm_taken S → ∀ P3 : jx_A, jx_V D l (yX0_undo.cls, cX0_undo, 4, 0, [], 5, 0, 0, yX0_undo.name) Po 125 [(60, n1, x), (0, 0, last), (0, 0, mc_n (x + 22) (x + 23) last M (S 0 15).toNat), P3] [] (0, 0) g (mc_M (x + 22) (x + 23) (x + 24) (x + 25) last M (S 0 15).toNat) := by
      intro c0 c1 P3
      have hK3 := (hK.2 c0).2 c1
      unfold mu_undo at hK3
      rw [← hl, ← hS'] at hK3
      obtain ⟨l1, l2⟩ := lk (S 0 15).toNat (Nat.le_refl _)
      obtain ⟨cn, hcn⟩ : ∃ w, w = mc_n 11 12 last S' (S 0 15).toNat := ⟨_, rfl⟩
      have cr := mc_n_r 11 12 last S' (S 0 15).toNat
      rw [← hcn] at l1 hK3 cr
      rw [l1]
      obtain ⟨S1, hS1⟩ : ∃ w, w = jx_u (mc_M 11 12 13 14 last S' (S 0 15).toNat) 0 15 cn := ⟨_, rfl⟩
      obtain ⟨M1, hM1⟩ : ∃ w, w = jx_u (jx_u (mc_M (x + 22) (x + 23) (x + 24) (x + 25) last M (S 0 15).toNat) x 18 cn) x 5 last := ⟨_, rfl⟩
      rw [← hS1] at hK3
      have sj : ∀ j k, (j < 11 ∨ 14 < j) → j ≠ 0 → S1 j k = S j k := fun j k h1 h2 => by rw [hS1, jx_u_a _ _ _ _ _ _ h2, mc_M_off _ _ _ _ _ _ _ _ _ (by omega) (by omega) (by omega) (by omega), s'r j h2]
      have sr : ∀ j, (j < 11 ∨ 14 < j) → j ≠ 0 → S1 j = S j := fun j h1 h2 => funext fun k => sj j k h1 h2
      have s0 : ∀ k, k ≠ 15 → k ≠ 9 → S1 0 k = S 0 k := fun k h1 h2 => by rw [hS1, jx_u_j _ _ _ _ _ _ h1, mc_M_off _ _ _ _ _ _ _ _ _ (by decide) (by decide) (by decide) (by decide), hS', jx_u_j _ _ _ _ _ _ h2]
      have s9 : S1 0 9 = last := by rw [hS1, jx_u_j _ _ _ _ _ _ (by decide), mc_M_off _ _ _ _ _ _ _ _ _ (by decide) (by decide) (by decide) (by decide), hS', jx_u_eq]
      have s15 : S1 0 15 = cn := by rw [hS1, jx_u_eq]
      have st : ∀ j k, 11 ≤ j → j ≤ 14 → S1 j k = mc_M 11 12 13 14 last S' (S 0 15).toNat j k := fun j k h1 h2 => by rw [hS1, jx_u_a _ _ _ _ _ _ (by omega)]
      have mz : ∀ z k, (z < x + 22 ∨ x + 25 < z) → ¬ (z = x ∧ (k = 18 ∨ k = 5)) → M1 z k = M z k := fun z k h1 h2 => by
        rw [hM1, show ∀ X v, jx_u X x 5 v z k = X z k from fun X v => if_neg (by omega), show ∀ X v, jx_u X x 18 v z k = X z k from fun X v => if_neg (by omega), mc_M_off _ _ _ _ _ _ _ _ _ (by omega) (by omega) (by omega) (by omega)]
      have mt : ∀ z k, x + 22 ≤ z → z ≤ x + 25 → M1 z k = mc_M (x + 22) (x + 23) (x + 24) (x + 25) last M (S 0 15).toNat z k := fun z k h1 h2 => by rw [hM1, jx_u_a _ _ _ _ _ _ (by omega), jx_u_a _ _ _ _ _ _ (by omega)]
      have rb : rBd x S1 g M1 := by
        refine ⟨?_, ?_, fun i a0 a1 => ?_, fun j j0 j1 => ?_, fun e e0 e1 => ?_⟩
        · rw [s9, hM1, jx_u_eq]
        · rw [s15, hM1, jx_u_j _ _ _ _ _ _ (by decide), jx_u_eq]
        · rw [s9] at a1
          have A := rA_c (M' := M1) (hR.2.1.2.2.1 i a0 (by omega)) a0 (by omega) (mz _ _ (by omega) (by omega)) (fun z q q1 q2 => mz _ _ (by omega) (by omega))
          unfold rA at A ⊢
          rw [sr 1 (by decide) (by decide), sr 2 (by decide) (by decide), sr 3 (by decide) (by decide), sr 4 (by decide) (by decide), sr 5 (by decide) (by decide), sr 6 (by decide) (by decide), sr 7 (by decide) (by decide), sr 8 (by decide) (by decide), sr 9 (by decide) (by decide)]
          exact A
        · rw [mz _ _ (by omega) (by omega), sr 10 (by decide) (by decide)]; exact hR.2.1.2.2.2.1 j j0 j1
        · rw [s15] at e1
          rw [mt _ e (by omega) (by omega), mt (x + 23) e (by omega) (by omega), mt (x + 24) e (by omega) (by omega), mt (x + 25) e (by omega) (by omega), st 11 e (by decide) (by decide), st 12 e (by decide) (by decide), st 13 e (by decide) (by decide), st 14 e (by decide) (by decide)]
          exact l2 e e0 (by omega)
      have mb : mB S1 := by
        unfold mB mm_uok at hB ⊢
        rw [s9, s15, sr 1 (by decide) (by decide), sr 2 (by decide) (by decide), sr 3 (by decide) (by decide), sr 4 (by decide) (by decide), sr 5 (by decide) (by decide), sr 6 (by decide) (by decide), sr 7 (by decide) (by decide), sr 10 (by decide) (by decide)]
        refine ⟨by omega, by omega, fun a a0 a1 => hB.2.2.1 a a0 (by omega), fun a i a0 a1 i0 i1 => hB.2.2.2.1 a i a0 (by omega) i0 i1, fun e e0 e1 => ?_, hB.2.2.2.2.2⟩
        obtain ⟨i, i1, i2, i3, i4, i5, i6⟩ := mc_kept (p := 11) (p1 := 12) (p2 := 13) (p3 := 14) (last := last) (M := S') (by decide) (S 0 15).toNat e e0 (by omega)
        rw [st 11 e (by decide) (by decide), st 12 e (by decide) (by decide), st 13 e (by decide) (by decide), st 14 e (by decide) (by decide), i3, i4, i5, i6]
        rw [s'r 11 (by decide), s'r 12 (by decide)] at i2
        rw [s'r 11 (by decide), s'r 12 (by decide), s'r 13 (by decide), s'r 14 (by decide)]
        have := hB.2.2.2.2.1 i (by omega) (by omega)
        omega
      refine jx_runL (o := jo_X0) (cs := cs_X0_undo) (hf := jx_nh) jo_X0_ok hc_X0_undo (jx_HK_nil rfl) (fun p => p == 135) 20 ?_
      simp only [jw, ju, jx_tg, Int.cast_ofNat_Int, Int.reduceAdd, Int.reduceToNat, Nat.reduceAdd, Nat.reduceMul, Nat.reduceBEq, Nat.reduceLeDiff, Int.reduceLE, Int.reduceLT, Int.reduceEq, Int.reduceNeg, Int.reduceSub, Int.reduceMul, not_false_eq_true, true_and, and_true, and_self, Bool.or_false, Bool.false_or, Bool.or_true, Bool.true_or, List.length_nil, List.length_cons, Nat.zero_le, or_true, true_or, Nat.le_refl, ↓reduceIte, Nat.reduceEqDiff, forall_const, false_and, and_false, false_implies, implies_true, not_true_eq_false, or_false, false_or, ne_eq, jd_X0_undo, jf_X0, js_X0_changed, js_X0_isTaken, js_X0_refuse, cs_X0_undo, jx_ck_c]
      rw [← hM1]
      refine jx_runL (o := jo_X0) (cs := cs_X0_undo) (hf := jx_nh) jo_X0_ok hc_X0_undo (jx_HK_nil rfl) (fun _ => false) 20 ?_
      simp only [jw, ju, jx_tg, Int.cast_ofNat_Int, Int.reduceAdd, Int.reduceToNat, Nat.reduceAdd, Nat.reduceMul, Nat.reduceBEq, Nat.reduceLeDiff, Int.reduceLE, Int.reduceLT, Int.reduceEq, Int.reduceNeg, Int.reduceSub, Int.reduceMul, not_false_eq_true, true_and, and_true, and_self, Bool.or_false, Bool.false_or, Bool.or_true, Bool.true_or, List.length_nil, List.length_cons, Nat.zero_le, or_true, true_or, Nat.le_refl, ↓reduceIte, Nat.reduceEqDiff, forall_const, false_and, and_false, false_implies, implies_true, not_true_eq_false, or_false, false_or, ne_eq, jd_X0_undo, jf_X0, js_X0_changed, js_X0_isTaken, js_X0_refuse, cs_X0_undo, jx_ck_c]
      refine ⟨S1, ⟨x0, rb, mb⟩, fun M' k1 => ?_⟩
      have e5 : M' x 5 = last := by rw [k1.2.2.2 x 5 (by omega) (by omega) (by omega) (by omega), rb.1, s9]
      rw [e5]
      exact ch_fin hR (by rw [s9]; omega) rb (fun z i w => mz z i (by unfold qMs qSl at w; omega) (by unfold qMs qSl at w; omega)) ⟨s0 _ (by decide) (by decide), s0 _ (by decide) (by decide)⟩ ⟨sr _ (by decide) (by decide), sr _ (by decide) (by decide), sr _ (by decide) (by decide), sr _ (by decide) (by decide), sr _ (by decide) (by decide)⟩ hK3 M' k1
    have loop : S 0 9 ≠ 0 → ¬ mm_taken S → ∀ (f k : Nat), (k : Int) + f = S 0 15 → jx_V D l (yX0_undo.cls, cX0_undo, 4, 0, [], 5, 0, 0, yX0_undo.name) Po 40 [(60, n1, x), (0, 0, last), (0, 0, mc_n (x + 22) (x + 23) last M k), (0, 0, (k : Int))] [] (0, 0) g (mc_M (x + 22) (x + 23) (x + 24) (x + 25) last M k) := by
      intro c0 c1 f
      induction f with
      | zero =>
        intro k hk
        have e18 : mc_M (x + 22) (x + 23) (x + 24) (x + 25) last M k x 18 = S 0 15 := by rw [mc_M_off _ _ _ _ _ _ _ _ _ (by omega) (by omega) (by omega) (by omega)]; exact r18
        have a := at125 c0 c1 (0, 0, (k : Int))
        rw [show (S 0 15).toNat = k by omega] at a
        refine jx_runL (o := jo_X0) (cs := cs_X0_undo) (hf := jx_nh) jo_X0_ok hc_X0_undo (jx_HK_nil rfl) (fun p => p == 48 || p == 125) 20 ?_
        simp only [jw, ju, jx_tg, Int.cast_ofNat_Int, Int.reduceAdd, Int.reduceToNat, Nat.reduceAdd, Nat.reduceMul, Nat.reduceBEq, Nat.reduceLeDiff, Int.reduceLE, Int.reduceLT, Int.reduceEq, Int.reduceNeg, Int.reduceSub, Int.reduceMul, not_false_eq_true, true_and, and_true, and_self, Bool.or_false, Bool.false_or, Bool.or_true, Bool.true_or, List.length_nil, List.length_cons, Nat.zero_le, or_true, true_or, Nat.le_refl, ↓reduceIte, Nat.reduceEqDiff, forall_const, false_and, and_false, false_implies, implies_true, not_true_eq_false, or_false, false_or, ne_eq, jd_X0_undo, jf_X0, e18, js_X0_changed, js_X0_isTaken, js_X0_refuse, cs_X0_undo, jx_ck_c]
        exact ⟨by omega, fun c => a, fun c => by omega⟩
      | succ f ih =>
        intro k hk
        have e18 : mc_M (x + 22) (x + 23) (x + 24) (x + 25) last M k x 18 = S 0 15 := by rw [mc_M_off _ _ _ _ _ _ _ _ _ (by omega) (by omega) (by omega) (by omega)]; exact r18
        have hi := fun z => mc_M_hi (x + 22) (x + 23) (x + 24) (x + 25) last M k z k (Int.le_refl _)
        have t := rt k (by omega) (by omega)
        rw [s'r 11 (by decide), s'r 12 (by decide), s'r 13 (by decide), s'r 14 (by decide)] at t
        have tb := hB.2.2.2.2.1 k (by omega) (by omega)
        have nr := mc_n_r (x + 22) (x + 23) last M k
        have nx := ih (k + 1) (by omega)
        rw [show (((k + 1 : Nat) : Int)) = (k : Int) + 1 by omega] at nx
        by_cases c : M (x + 22) k ≠ last ∧ M (x + 23) k ≠ last
        · rw [mc_n_y c, mc_M_y c] at nx
          generalize hX : mc_M (x + 22) (x + 23) (x + 24) (x + 25) last M k = X at e18 hi nx ⊢
          generalize hN : mc_n (x + 22) (x + 23) last M k = N at nr nx ⊢
          have n119 : jx_V D l (yX0_undo.cls, cX0_undo, 4, 0, [], 5, 0, 0, yX0_undo.name) Po 119 [(60, n1, x), (0, 0, last), (0, 0, N + 1), (0, 0, (k : Int))] [] (0, 0) g (jx_u (jx_u (jx_u (jx_u X (x + 22) N (M (x + 22) k)) (x + 23) N (M (x + 23) k)) (x + 24) N (M (x + 24) k)) (x + 25) N (M (x + 25) k)) := by
            refine jx_runL (o := jo_X0) (cs := cs_X0_undo) (hf := jx_nh) jo_X0_ok hc_X0_undo (jx_HK_nil rfl) (fun p => p == 40) 20 ?_
            simp only [jw, ju, jx_tg, Int.cast_ofNat_Int, Int.reduceAdd, Int.reduceToNat, Nat.reduceAdd, Nat.reduceMul, Nat.reduceBEq, Nat.reduceLeDiff, Int.reduceLE, Int.reduceLT, Int.reduceEq, Int.reduceNeg, Int.reduceSub, Int.reduceMul, not_false_eq_true, true_and, and_true, and_self, Bool.or_false, Bool.false_or, Bool.or_true, Bool.true_or, List.length_nil, List.length_cons, Nat.zero_le, or_true, true_or, Nat.le_refl, ↓reduceIte, Nat.reduceEqDiff, forall_const, false_and, and_false, false_implies, implies_true, not_true_eq_false, or_false, false_or, ne_eq, jd_X0_undo, jf_X0, js_X0_changed, js_X0_isTaken, js_X0_refuse, cs_X0_undo, jx_ck_c]
            exact nx
          refine jx_runL (o := jo_X0) (cs := cs_X0_undo) (hf := jx_nh) jo_X0_ok hc_X0_undo (jx_HK_nil rfl) (fun p => p == 40 || p == 119 || p == 125) 80 ?_
          simp only [jw, ju, jx_tg, Int.cast_ofNat_Int, Int.reduceAdd, Int.reduceToNat, Nat.reduceAdd, Nat.reduceMul, Nat.reduceBEq, Nat.reduceLeDiff, Int.reduceLE, Int.reduceLT, Int.reduceEq, Int.reduceNeg, Int.reduceSub, Int.reduceMul, not_false_eq_true, true_and, and_true, and_self, Bool.or_false, Bool.false_or, Bool.or_true, Bool.true_or, List.length_nil, List.length_cons, Nat.zero_le, or_true, true_or, Nat.le_refl, ↓reduceIte, Nat.reduceEqDiff, forall_const, false_and, and_false, false_implies, implies_true, not_true_eq_false, or_false, false_or, ne_eq, jd_X0_undo, jf_X0, e18, hi, js_X0_changed, js_X0_isTaken, js_X0_refuse, cs_X0_undo, jx_ck_c]
          exact ⟨by omega, fun c2 => by omega, fun c2 => ⟨by omega, by omega, fun c3 => absurd c3 c.1, fun c3 => ⟨by omega, by omega, fun c4 => absurd c4 c.2, fun c4 => ⟨by omega, by omega, by omega, by omega, by omega, by omega, by omega, by omega, n119⟩⟩⟩⟩
        · rw [mc_n_n c, mc_M_n c] at nx
          refine jx_runL (o := jo_X0) (cs := cs_X0_undo) (hf := jx_nh) jo_X0_ok hc_X0_undo (jx_HK_nil rfl) (fun p => p == 40 || p == 68 || p == 125) 80 ?_
          simp only [jw, ju, jx_tg, Int.cast_ofNat_Int, Int.reduceAdd, Int.reduceToNat, Nat.reduceAdd, Nat.reduceMul, Nat.reduceBEq, Nat.reduceLeDiff, Int.reduceLE, Int.reduceLT, Int.reduceEq, Int.reduceNeg, Int.reduceSub, Int.reduceMul, not_false_eq_true, true_and, and_true, and_self, Bool.or_false, Bool.false_or, Bool.or_true, Bool.true_or, List.length_nil, List.length_cons, Nat.zero_le, or_true, true_or, Nat.le_refl, ↓reduceIte, Nat.reduceEqDiff, forall_const, false_and, and_false, false_implies, implies_true, not_true_eq_false, or_false, false_or, ne_eq, jd_X0_undo, jf_X0, e18, hi, js_X0_changed, js_X0_isTaken, js_X0_refuse, cs_X0_undo, jx_ck_c]
          exact ⟨by omega, fun c2 => by omega, fun c2 => ⟨by omega, by omega, fun c3 => nx, fun c3 => ⟨by omega, by omega, fun c4 => nx, fun c4 => absurd ⟨c3, c4⟩ c⟩⟩⟩
    by_cases c0 : S 0 9 = 0
    · refine jx_runL (o := jo_X0) (cs := cs_X0_undo) (hf := jx_nh) jo_X0_ok hc_X0_undo (jx_HK_nil rfl) (fun p => p == 14) 40 ?_
      simp only [jw, ju, jx_tg, Int.cast_ofNat_Int, Int.reduceAdd, Int.reduceToNat, Nat.reduceAdd, Nat.reduceMul, Nat.reduceBEq, Nat.reduceLeDiff, Int.reduceLE, Int.reduceLT, Int.reduceEq, Int.reduceNeg, Int.reduceSub, Int.reduceMul, not_false_eq_true, true_and, and_true, and_self, Bool.or_false, Bool.false_or, Bool.or_true, Bool.true_or, List.length_nil, List.length_cons, Nat.zero_le, or_true, true_or, Nat.le_refl, ↓reduceIte, Nat.reduceEqDiff, forall_const, false_and, and_false, false_implies, implies_true, not_true_eq_false, or_false, false_or, ne_eq, jd_X0_undo, jf_X0, r5, js_X0_changed, js_X0_isTaken, js_X0_refuse, cs_X0_undo, jx_ck_c]
      exact ⟨by omega, fun c => absurd c0 c, fun c => rK_no h9.2 (by decide) hR rFr_rf (hK.1 c0)⟩
    · refine jx_runL (o := jo_X0) (cs := cs_X0_undo) (hf := jx_nh) jo_X0_ok hc_X0_undo (jx_HK_nil rfl) (fun p => p == 7 || p == 40) 40 ?_
      simp only [jw, ju, jx_tg, Int.cast_ofNat_Int, Int.reduceAdd, Int.reduceToNat, Nat.reduceAdd, Nat.reduceMul, Nat.reduceBEq, Nat.reduceLeDiff, Int.reduceLE, Int.reduceLT, Int.reduceEq, Int.reduceNeg, Int.reduceSub, Int.reduceMul, not_false_eq_true, true_and, and_true, and_self, Bool.or_false, Bool.false_or, Bool.or_true, Bool.true_or, List.length_nil, List.length_cons, Nat.zero_le, or_true, true_or, Nat.le_refl, ↓reduceIte, Nat.reduceEqDiff, forall_const, false_and, and_false, false_implies, implies_true, not_true_eq_false, or_false, false_or, ne_eq, jd_X0_undo, jf_X0, r5, ← hl, js_X0_changed, js_X0_isTaken, js_X0_refuse, cs_X0_undo, jx_ck_c]
      exact ⟨by omega, fun c => ⟨S, ⟨x0, hR.2.1, hB, by omega, hl⟩, fun c2 => rK_no h9.2 (by decide) hR rFr_rf ((hK.2 c0).1 c2), fun c2 => loop c0 c2 (S 0 15).toNat 0 (by omega)⟩, fun c => by omega⟩
  · exact hS.elim
