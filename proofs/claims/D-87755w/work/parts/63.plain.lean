/-! LoopLane: runPlain -/
set_option maxRecDepth 100000
def xB (x : Int) (S : jx_M) (g : jx_S) (M : jx_M) : Prop := rSh x g ∧ rBd x S g M ∧ mB S ∧ mm_whole S ∧ mm_rows S
def xr3 (x r : Int) : Prop := r = x + 37 ∨ r = x + 39 ∨ r = x + 41
def xFr (x r : Int) (M M' : jx_M) : Prop := ∀ z k : Int, z < x + 430 → z ≠ r → z ≠ r + 1 → ¬ (x + 43 ≤ z ∧ z ≤ x + 46) → M' z k = M z k
def xFl (r lb : Int) (Q M' : jx_M) : Prop := M' r 5 = lb ∧ ∀ k : Int, 0 ≤ k → k ≤ 6 → k ≠ 5 → M' r k = Q 0 (38 + k)
def xI (x r lb : Int) (S : jx_M) (g : jx_S) (M Q M' : jx_M) : Prop := mm_same S Q ∧ xFr x r M M' ∧ rSl x Q g M' ∧ xFl r lb Q M'
/-- what a run leaves -/
def xE (x r lb : Int) (S : jx_M) (g : jx_S) (M Q : jx_M) (g' : jx_S) (M' : jx_M) : Prop := rG g g' ∧ xI x r lb S g' M Q M' ∧ ((-8 ≤ Q 0 38 ∧ Q 0 38 ≤ 0) ∧ (-1 ≤ Q 0 39 ∧ Q 0 39 ≤ 16) ∧ (-1 ≤ Q 0 40 ∧ Q 0 40 ≤ 200) ∧ (0 ≤ Q 0 44 ∧ Q 0 44 ≤ 200)) ∧ (0 < Q 0 44 → ∀ a, 0 ≤ a → a < S 0 9 → M' (x + 43) (16 * (Q 0 44 - 1) + a) = Q 32 (16 * (Q 0 44 - 1) + a))
theorem jx_u_id {M : jx_M} {a i v : Int} (h : M a i = v) : jx_u M a i v = M := by
  funext z k
  unfold jx_u
  split
  · rename_i c
    rw [c.1, c.2, h]
  · rfl
theorem xFr_rf {x r : Int} {M : jx_M} : xFr x r M M := fun _ _ _ _ _ _ => rfl
theorem xFr_Bd {x r : Int} {S : jx_M} {g : jx_S} {M M' : jx_M} (h : xFr x r M M') (h9 : S 0 9 ≤ 16) (hr : xr3 x r) (hb : rBd x S g M) : rBd x S g M' :=
  rBd_c h9 hb (fun z k w => by unfold qBd at w; unfold xr3 at hr; exact h z k (by omega) (by omega) (by omega) (by omega))
theorem xI_C {x r lb : Int} {S : jx_M} {g g' : jx_S} {M Q M' : jx_M} (hB : xB x S g M) (hr : xr3 x r) (hg : rG g g') (h : xI x r lb S g' M Q M') : xC x Q g' M' := by
  obtain ⟨b1, b2, b3, b4, b5⟩ := hB
  have z := mm_same_Z h.1
  exact ⟨rSh_g b1 hg, rBd_Z z (rBd_g b3.1.2 b1 (xFr_Bd h.2.1 b3.1.2 hr b2) hg), h.2.2.1, mB_Z z b3, mm_whole_same h.1 b4, mm_rows_same h.1 b5⟩
theorem xI_g {x r lb : Int} {S : jx_M} {g g' : jx_S} {M Q M' : jx_M} (hg : rG g g') (h : xI x r lb S g M Q M') : xI x r lb S g' M Q M' := ⟨h.1, h.2.1, rSl_g h.2.2.1 hg, h.2.2.2⟩
/-- a field of the result -/
theorem xI_f {x r lb k v j : Int} {S : jx_M} {g : jx_S} {M Q M' : jx_M} (hr : xr3 x r) (hk : 0 ≤ k ∧ k ≤ 6 ∧ k ≠ 5) (hj : j = 38 + k) (h : xI x r lb S g M Q M') : xI x r lb S g M (jx_u Q 0 j v) (jx_u M' r k v) := by
  subst hj
  obtain ⟨h1, h2, h3, h4, h5⟩ := h
  unfold xr3 at hr
  refine ⟨mm_same_0 h1 (by omega), fun z i a b c d => ?_, rSl_S (rSl_c h3 (fun z i w => jx_u_a _ _ _ _ _ _ (by unfold qSl at w; omega))) (jx_u_row (by decide)) (jx_u_row (by decide)) (jx_u_row (by decide)), ?_, fun i i0 i1 i5 => ?_⟩
  · rw [jx_u_a _ _ _ _ _ _ b]; exact h2 z i a b c d
  · rw [jx_u_j _ _ _ _ _ _ (by omega)]; exact h4
  · by_cases c : i = k
    · rw [c, jx_u_eq, jx_u_eq]
    · rw [jx_u_j _ _ _ _ _ _ c, jx_u_j _ _ _ _ _ _ (by omega)]; exact h5 i i0 i1 i5
/-- an act has worked -/
theorem xI_put {x r lb a t i p q w v : Int} {S : jx_M} {g : jx_S} {M Q M' : jx_M} (hr : xr3 x r) (h : xI x r lb S g M Q M') (hC : xC x Q g M') (a0 : 0 ≤ a) (a1 : a < Q 0 9) (hp : p = xo Q a 0 t) (hq : q = xo Q a 1 t) (hw : w = xo Q a 2 t) (hy : mm_dwhy Q a t = 0) :
    xI x r lb S g M (mm_dput Q a t) (jx_u (xw_put g M' (x + 3) (M' (x + 13) a) p q) (x + 43) i v) := by
  have hz := (xw_Y (i := i) hC a0 a1 hp hq hw hy).2.2 v
  unfold xr3 at hr
  obtain ⟨h1, h2, h3, h4, h5⟩ := h
  have e0 : ∀ k, mm_dput Q a t 0 k = Q 0 k := fun k => by
    have := mm_does_0k (S := Q) (a := a) (t := t) (k := k)
    rw [mm_does_0 hy] at this
    exact this
  refine ⟨?_, fun z k b c d e => (hz.2 z k b (by omega)).trans (h2 z k b c d e), hz.1, ?_, fun k k0 k1 k5 => ?_⟩
  · have := mm_same_does (a := a) (t := t) h1
    rw [mm_does_0 hy] at this
    exact this
  · rw [hz.2 _ _ (by omega) (by omega)]; exact h4
  · rw [hz.2 _ _ (by omega) (by omega), e0]; exact h5 k k0 k1 k5
theorem mm_dput_32 {Q : jx_M} {a t j : Int} (h : j ≠ 16 * t + a) : mm_dput Q a t 32 j = Q 32 j := by
  unfold mm_dput
  rw [jx_u_j _ _ _ _ _ _ h]
  split
  · rw [jx_u_a _ _ _ _ _ _ (by decide)]
  · rfl
theorem mm_dput_e {Q : jx_M} {a t : Int} : mm_dput Q a t 32 (16 * t + a) = mm_dend Q a t := jx_u_eq _ _ _ _
theorem mm_dput_0 {Q : jx_M} {a t k : Int} : mm_dput Q a t 0 k = Q 0 k := by
  unfold mm_dput
  rw [jx_u_a _ _ _ _ _ _ (by decide)]
  split
  · rw [jx_u_a _ _ _ _ _ _ (by decide)]
  · rfl
/-- a fresh result -/
def xZ (S : jx_M) : Prop := S 0 38 = 0 ∧ S 0 39 = -1 ∧ S 0 40 = -1 ∧ S 0 41 = 0 ∧ S 0 42 = 0 ∧ S 0 44 = 0
theorem xI_0 {x r : Int} {S : jx_M} {g : jx_S} {M : jx_M} (hx : 0 ≤ x) (hr : xr3 x r) (hl : rSl x S g M) (hz : xZ S) : xI x r 0 S g M S (mu_clear M r) := by
  unfold xr3 at hr
  have o : ∀ z k, z ≠ r → z ≠ r + 1 → mu_clear M r z k = M z k := fun z k a b => by
    unfold mu_clear mu_zero
    rw [if_neg (by omega), jx_u_a _ _ _ _ _ _ a, jx_u_a _ _ _ _ _ _ a, jx_u_a _ _ _ _ _ _ a, jx_u_a _ _ _ _ _ _ a, jx_u_a _ _ _ _ _ _ a, jx_u_a _ _ _ _ _ _ a, jx_u_a _ _ _ _ _ _ a]
  have e : ∀ k, mu_clear M r r k = jx_u (jx_u (jx_u (jx_u (jx_u (jx_u (jx_u M r 0 0) r 1 (-1)) r 2 (-1)) r 3 0) r 4 0) r 5 0) r 6 0 r k := fun k => if_neg (by omega)
  obtain ⟨z1, z2, z3, z4, z5, z6⟩ := hz
  refine ⟨mm_same_rf, fun z k _ a b _ => o z k a b, rSl_c hl (fun z k w => by unfold qSl at w; exact o z k (by omega) (by omega)), ?_, fun k k0 k1 k5 => ?_⟩
  · rw [e, jx_u_j _ _ _ _ _ _ (by decide), jx_u_eq]
  · rw [e]
    rcases (show k = 0 ∨ k = 1 ∨ k = 2 ∨ k = 3 ∨ k = 4 ∨ k = 6 by omega) with c | c | c | c | c | c <;> subst c
    · rw [show (38 : Int) + 0 = 38 from rfl, z1]
      simp (disch := decide) only [jx_u_j, jx_u_eq]
    · rw [show (38 : Int) + 1 = 39 from rfl, z2]
      simp (disch := decide) only [jx_u_j, jx_u_eq]
    · rw [show (38 : Int) + 2 = 40 from rfl, z3]
      simp (disch := decide) only [jx_u_j, jx_u_eq]
    · rw [show (38 : Int) + 3 = 41 from rfl, z4]
      simp (disch := decide) only [jx_u_j, jx_u_eq]
    · rw [show (38 : Int) + 4 = 42 from rfl, z5]
      simp (disch := decide) only [jx_u_j, jx_u_eq]
    · rw [show (38 : Int) + 6 = 44 from rfl, z6]
      simp (disch := decide) only [jx_u_j, jx_u_eq]
def js_X0_runPlain : jx_Sp := fun as g M Po => match as with
  | [(60, _, x), (63, _, r), (0, _, n)] => ∃ S, (xB x S g M ∧ rSl x S g M ∧ xr3 x r ∧ (0 ≤ n ∧ n ≤ 200) ∧ xZ S) ∧ ∀ g' M', xE x r 0 S g M (mp_go n 4000 0 0 S) g' M' → Po (3, 0, 0) g' M'
  | _ => False
def cs_X0_runPlainN : jx_Cs := [(516, 1, 0, 0, js_X3_clear), (618, 4, 0, 0, js_X0_plainly), (630, 6, 3, 2000, js_X0_workN)]
theorem hc_X0_runPlainN {D : jx_D} {l : Launch} : jx_CsOK D l "LoopLane" 4 cs_X0_runPlainN := List.forall_mem_cons.mpr ⟨jc_X0_172 (jt_X3_clear l) (fun as g M Po (h : js_X3_clear as g M Po) => by unfold js_X3_clear at h; split at h <;> first | exact h.elim | exact ⟨_, _, _, rfl, rfl⟩) (by decide), List.forall_mem_cons.mpr ⟨jc_X0_206 (jt_X0_plainly l) (fun as g M Po (h : js_X0_plainly as g M Po) => by unfold js_X0_plainly at h; split at h <;> first | exact h.elim | exact ⟨_, _, _, rfl, rfl⟩) (by decide), List.forall_mem_cons.mpr ⟨jc_X0_210 (jt_X0_workN l) (fun as g M Po (h : js_X0_workN as g M Po) => by unfold js_X0_workN at h; split at h <;> first | exact h.elim | exact ⟨_, _, _, rfl, rfl⟩) (by decide), fun _ h => absurd h List.not_mem_nil⟩⟩⟩
def cs_X0_runPlain : jx_Cs := [(516, 1, 0, 0, js_X3_clear), (618, 4, 0, 0, js_X0_plainly), (630, 6, 0, 0, js_X0_workY)]
theorem hc_X0_runPlain {D : jx_D} {l : Launch} : jx_CsOK D l "LoopLane" 4 cs_X0_runPlain := List.forall_mem_cons.mpr ⟨jc_X0_172 (jt_X3_clear l) (fun as g M Po (h : js_X3_clear as g M Po) => by unfold js_X3_clear at h; split at h <;> first | exact h.elim | exact ⟨_, _, _, rfl, rfl⟩) (by decide), List.forall_mem_cons.mpr ⟨jc_X0_206 (jt_X0_plainly l) (fun as g M Po (h : js_X0_plainly as g M Po) => by unfold js_X0_plainly at h; split at h <;> first | exact h.elim | exact ⟨_, _, _, rfl, rfl⟩) (by decide), List.forall_mem_cons.mpr ⟨jc_X0_210 (jt_X0_workY l) (fun as g M Po (h : js_X0_workY as g M Po) => by unfold js_X0_workY at h; split at h <;> first | exact h.elim | exact ⟨_, _, _, rfl, rfl⟩) (by decide), fun _ h => absurd h List.not_mem_nil⟩⟩⟩
set_option maxHeartbeats 4000000 in
theorem jt_X0_runPlain (l : Launch) : jx_Ct l yX0_runPlain (ws_ yX0_runPlain cX0_runPlain 7 none) 4 3 2000 js_X0_runPlain := by
  refine jx_Ct_c (rc := 3) (by decide) rfl (fun D as g M Po hS => ?_)
  unfold js_X0_runPlain at hS
  split at hS
  · rename_i n1 x n2 r n3 n
    obtain ⟨S, ⟨hB, hl, hr, hn, hz⟩, hP⟩ := hS
    have x0 := hB.1.1
    have h9 := hB.2.2.1.1
    refine ⟨Nat.le_of_ble_eq_true rfl, ?_⟩
    have loop : ∀ (f : Nat) (t a : Int) (Q M' : jx_M) (P5 P6 : jx_A), 17 * (n - t) + (16 - a) < f → (0 ≤ t ∧ t < n) → (0 ≤ a ∧ a ≤ S 0 9) → xI x r 0 S g M Q M' → (Q 0 44 = t ∧ Q 0 38 = 0 ∧ Q 0 39 = -1 ∧ Q 0 40 = -1) → (∀ j, 0 ≤ j → j < 16 * t + a → j % 16 < S 0 9 → M' (x + 43) j = Q 32 j) → (∀ g'' M'', xE x r 0 S g M (mp_go n f t a Q) g'' M'' → Po (3, 0, 0) g'' M'') → jx_V D l (yX0_runPlain.cls, cX0_runPlain, 7, 3, [], 4, 3, 2000, yX0_runPlain.name) Po 14 [(60, n1, x), (63, n2, r), (0, n3, n), (0, 0, t), (0, 0, a), P5, P6] [] (0, 0) g (M') := by
      intro f
      induction f with
      | zero => intro t a Q M' P5 P6 hf; omega
      | succ f ih =>
        intro t a Q M' P5 P6 hf ht ha hI hq hv hE
        have hC := xI_C hB hr rG_rf hI
        have e9 : Q 0 9 = S 0 9 := hI.1.2 9 (by decide)
        have r5 : M' x 5 = S 0 9 := by rw [hC.2.1.1]; exact e9
        have f6 : M' r 6 = t := (hI.2.2.2.2 6 (by decide) (by decide) (by decide)).trans hq.1
        have f3 := hI.2.2.2.2 3 (by decide) (by decide) (by decide)
        have f4 := hI.2.2.2.2 4 (by decide) (by decide) (by decide)
        unfold mp_go at hE
        rw [if_neg (by omega), e9] at hE
        by_cases hc : S 0 9 ≤ a
        · rw [if_pos hc] at hE
          have I2 := xI_f (k := 6) (j := 44) (v := t + 1) hr (by decide) rfl hI
          have hv2 : ∀ j, 0 ≤ j → j < 16 * (t + 1) → j % 16 < S 0 9 → jx_u M' r 6 (t + 1) (x + 43) j = jx_u Q 0 44 (t + 1) 32 j := fun j j0 j1 j2 => by
            rw [jx_u_a _ _ _ _ _ _ (by unfold xr3 at hr; omega), jx_u_a _ _ _ _ _ _ (by decide)]
            exact hv j j0 (by omega) j2
          have q2 : jx_u Q 0 44 (t + 1) 0 44 = t + 1 ∧ jx_u Q 0 44 (t + 1) 0 38 = 0 ∧ jx_u Q 0 44 (t + 1) 0 39 = -1 ∧ jx_u Q 0 44 (t + 1) 0 40 = -1 := ⟨jx_u_eq _ _ _ _, by rw [jx_u_j _ _ _ _ _ _ (by decide)]; exact hq.2.1, by rw [jx_u_j _ _ _ _ _ _ (by decide)]; exact hq.2.2.1, by rw [jx_u_j _ _ _ _ _ _ (by decide)]; exact hq.2.2.2⟩
          by_cases ht2 : t + 1 < n
          · have nx := ih (t + 1) 0 _ _ P5 P6 (by omega) (by omega) (by omega) I2 q2 (fun j a b c => hv2 j a (by omega) c) hE
            refine jx_runL (o := jo_X0) (cs := cs_X0_runPlain) (hf := jx_nh) jo_X0_ok hc_X0_runPlain (jx_HK_nil rfl) (fun p => p == 14 || p == 23) 60 ?_
            simp only [jw, ju, jx_tg, Int.cast_ofNat_Int, Int.reduceAdd, Int.reduceToNat, Nat.reduceAdd, Nat.reduceMul, Nat.reduceBEq, Nat.reduceLeDiff, Int.reduceLE, Int.reduceLT, Int.reduceEq, Int.reduceNeg, Int.reduceSub, Int.reduceMul, not_false_eq_true, true_and, and_true, and_self, Bool.or_false, Bool.false_or, Bool.or_true, Bool.true_or, List.length_nil, List.length_cons, Nat.zero_le, or_true, true_or, Nat.le_refl, ↓reduceIte, Nat.reduceEqDiff, forall_const, false_and, and_false, false_implies, implies_true, not_true_eq_false, or_false, false_or, ne_eq, jd_X0_runPlain, jf_X0, r5, f6, js_X0_plainly, js_X0_workY, js_X3_clear, cs_X0_runPlain, jx_ck_c]
            exact ⟨by omega, fun c => ⟨by omega, fun c => by omega, fun c => nx⟩, fun c => by omega⟩
          · have fin : Po (3, 0, 0) g (jx_u M' r 6 (t + 1)) := by
              refine hE _ _ ?_
              have ee : mp_go n f (t + 1) 0 (jx_u Q 0 44 (t + 1)) = jx_u Q 0 44 (t + 1) := by
                match f with
                | 0 => rfl
                | f + 1 => unfold mp_go; rw [if_pos (by omega)]
              rw [ee]
              refine ⟨rG_rf, I2, by omega, fun _ b b0 b1 => ?_⟩
              rw [q2.1]
              exact hv2 _ (by omega) (by omega) (by omega)
            refine jx_runL (o := jo_X0) (cs := cs_X0_runPlain) (hf := jx_nh) jo_X0_ok hc_X0_runPlain (jx_HK_nil rfl) (fun p => p == 14 || p == 23) 60 ?_
            simp only [jw, ju, jx_tg, Int.cast_ofNat_Int, Int.reduceAdd, Int.reduceToNat, Nat.reduceAdd, Nat.reduceMul, Nat.reduceBEq, Nat.reduceLeDiff, Int.reduceLE, Int.reduceLT, Int.reduceEq, Int.reduceNeg, Int.reduceSub, Int.reduceMul, not_false_eq_true, true_and, and_true, and_self, Bool.or_false, Bool.false_or, Bool.or_true, Bool.true_or, List.length_nil, List.length_cons, Nat.zero_le, or_true, true_or, Nat.le_refl, ↓reduceIte, Nat.reduceEqDiff, forall_const, false_and, and_false, false_implies, implies_true, not_true_eq_false, or_false, false_or, ne_eq, jd_X0_runPlain, jf_X0, r5, f6, js_X0_plainly, js_X0_workY, js_X3_clear, cs_X0_runPlain, jx_ck_c]
            exact ⟨by omega, fun c => ⟨by omega, fun c => fin, fun c => by omega⟩, fun c => by omega⟩
        · rw [if_neg hc] at hE
          have hA := hC.2.1.2.2.1 a ha.1 (by omega)
          have k3 := rA_k3 hA x0 ha.1
          have lg := rA_lag hA
          have ad := rA_ad hA ha.1 (by omega)
          have lg2 : ∀ v, jx_u M' r 3 v (M' (x + 13) a) 0 = Q 2 a := fun v => by rw [jx_u_j _ _ _ _ _ _ (by decide)]; exact lg
          have I1 := xI_f (k := 4) (j := 42) (v := Q 0 42 + Q 2 a) hr (by decide) rfl (xI_f (k := 3) (j := 41) (v := Q 0 41 + 1) hr (by decide) rfl hI)
          obtain ⟨Q1, hQ1⟩ : ∃ q, q = jx_u (jx_u Q 0 41 (Q 0 41 + 1)) 0 42 (Q 0 42 + Q 2 a) := ⟨_, rfl⟩
          obtain ⟨M1, hM1⟩ : ∃ q, q = jx_u (jx_u M' r 3 (Q 0 41 + 1)) r 4 (Q 0 42 + Q 2 a) := ⟨_, rfl⟩
          rw [← hQ1] at hE I1
          rw [← hM1] at I1
          have hC1 := xI_C hB hr rG_rf I1
          have e91 : Q1 0 9 = S 0 9 := I1.1.2 9 (by decide)
          have q1 : ∀ k, k ≠ 41 → k ≠ 42 → Q1 0 k = Q 0 k := fun k a b => by rw [hQ1, jx_u_j _ _ _ _ _ _ b, jx_u_j _ _ _ _ _ _ a]
          have q32 : ∀ k, Q1 32 k = Q 32 k := fun k => by rw [hQ1, jx_u_a _ _ _ _ _ _ (by decide), jx_u_a _ _ _ _ _ _ (by decide)]
          have m1 : ∀ z k, z ≠ r → M1 z k = M' z k := fun z k a => by rw [hM1, jx_u_a _ _ _ _ _ _ a, jx_u_a _ _ _ _ _ _ a]
          have hv1 : ∀ j, 0 ≤ j → j < 16 * t + a → j % 16 < S 0 9 → M1 (x + 43) j = Q1 32 j := fun j a b c => by rw [m1 _ _ (by unfold xr3 at hr; omega), q32]; exact hv j a b c
          have op : ∀ i, 0 ≤ i → i < 3 → (i < mm_nop (Q1 1 a) → 0 ≤ t - Q1 7 (3 * a + i) → M1 (x + 43) (16 * (t - Q1 7 (3 * a + i)) + Q1 6 (3 * a + i)) = Q1 32 (16 * (t - Q1 7 (3 * a + i)) + Q1 6 (3 * a + i))) := fun i i0 i1 c d => by
            have o := (hC1.2.2.2.1.2.2.2.1 a i ha.1 (by omega) i0 i1).1 c
            have w := hC1.2.2.2.2.1 (3 * a + i) (by omega) (by omega)
            exact hv1 _ (by omega) (by omega) (by omega)
          have hA1 : M1 (x + 13) a = M' (x + 13) a := m1 _ _ (by unfold xr3 at hr; omega)
          have kx : xk g (M' (x + 13) a) 0 := rA_k hA x0 ha.1
          have at56 : jx_V D l (yX0_runPlain.cls, cX0_runPlain, 7, 3, [], 4, 3, 2000, yX0_runPlain.name) Po 56 [(60, n1, x), (63, n2, r), (0, n3, n), (0, 0, t), (0, 0, a), (80, 0, M' (x + 13) a), P6] [] (0, 0) g M1 := by
            by_cases hy : mm_dwhy Q1 a t = 0
            · rw [mm_does_0 hy, if_pos rfl] at hE
              have Y := xw_Y (i := 16 * t + a) hC1 ha.1 (by omega) rfl rfl rfl hy
              have I2 := xI_put (i := 16 * t + a) (v := mm_dend Q1 a t) hr I1 hC1 ha.1 (by omega) rfl rfl rfl hy
              have y3 := (Y.2.2 (mm_dend Q1 a t)).2
              rw [hA1] at Y I2 y3
              have q38 : mm_dput Q1 a t 0 38 = 0 := by rw [mm_dput_0, q1 _ (by decide) (by decide)]; exact hq.2.1
              have e38 : jx_u (mm_dput Q1 a t) 0 38 0 = mm_dput Q1 a t := jx_u_id q38
              rw [e38] at hE
              have nx := fun P5 P6 => ih t (a + 1) _ _ P5 P6 (by omega) ht (by omega) I2 ⟨by rw [mm_dput_0, q1 _ (by decide) (by decide)]; exact hq.1, q38, by rw [mm_dput_0, q1 _ (by decide) (by decide)]; exact hq.2.2.1, by rw [mm_dput_0, q1 _ (by decide) (by decide)]; exact hq.2.2.2⟩ (fun j j0 j1 j2 => by
                by_cases c : j = 16 * t + a
                · rw [c, mm_dput_e, jx_u_eq]
                · rw [mm_dput_32 c, y3 _ _ (by omega) (by omega)]
                  exact hv1 j j0 (by omega) j2) hE
              refine jx_runL (o := jo_X0) (cs := cs_X0_runPlain) (hf := jx_nh) jo_X0_ok hc_X0_runPlain (jx_HK_nil rfl) (fun p => p == 14) 60 ?_
              simp only [jw, ju, jx_tg, Int.cast_ofNat_Int, Int.reduceAdd, Int.reduceToNat, Nat.reduceAdd, Nat.reduceMul, Nat.reduceBEq, Nat.reduceLeDiff, Int.reduceLE, Int.reduceLT, Int.reduceEq, Int.reduceNeg, Int.reduceSub, Int.reduceMul, not_false_eq_true, true_and, and_true, and_self, Bool.or_false, Bool.false_or, Bool.or_true, Bool.true_or, List.length_nil, List.length_cons, Nat.zero_le, or_true, true_or, Nat.le_refl, ↓reduceIte, Nat.reduceEqDiff, forall_const, false_and, and_false, false_implies, implies_true, not_true_eq_false, or_false, false_or, ne_eq, jd_X0_runPlain, jf_X0, js_X0_plainly, js_X0_workY, js_X3_clear, cs_X0_runPlain, jx_ck_c]
              refine ⟨Q1, a, ⟨hC1, by omega, hA1.symm, by omega, op 0 (by decide) (by decide)⟩, Q1, a, ⟨hC1, by omega, hA1.symm, by omega, op 1 (by decide) (by decide)⟩, Q1, a, ⟨hC1, by omega, hA1.symm, by omega, op 2 (by decide) (by decide)⟩, by omega, kx, Y.1, ?_⟩
              rw [Y.2.1]
              exact nx _ _
            · rw [mm_does_n hy, if_neg hy] at hE
              have hw := mm_does_r (S := Q1) (a := a) (t := t)
              rw [mm_does_n hy] at hw
              have hN := fun Po hP => xw_N (p := xo Q1 a 0 t) (q := xo Q1 a 1 t) (Po := Po) hC1 ha.1 (by omega) rfl rfl hy hP
              rw [hA1] at hN
              have at93 : ∀ m : Nat, m = 1 ∨ m = 3 → jx_V D l (yX0_runPlain.cls, cX0_runPlain, 7, 3, [], 4, 3, 2000, yX0_runPlain.name) Po 93 [(60, n1, x), (63, n2, r), (0, n3, n), (0, 0, t), (0, 0, a), (80, 0, M' (x + 13) a), P6] [(0, 0, mm_dwhy Q1 a t)] (3, 2000) (g.1 + m, g.2) M1 := by
                intro m hm
                have hg : rG g (g.1 + m, g.2) := rG_add
                have I3 := xI_f (k := 2) (j := 40) (v := t) hr (by decide) rfl (xI_f (k := 1) (j := 39) (v := a) hr (by decide) rfl (xI_f (k := 0) (j := 38) (v := mm_dwhy Q1 a t) hr (by decide) rfl (xI_g hg I1)))
                have fin := hE _ _ ⟨hg, I3, ?_, ?_⟩
                · refine jx_runL (o := jo_X0) (cs := cs_X0_runPlainN) (hf := jx_nh) jo_X0_ok hc_X0_runPlainN (jx_HK_nil rfl) (fun _ => false) 20 ?_
                  simp only [jw, ju, jx_tg, Int.cast_ofNat_Int, Int.reduceAdd, Int.reduceToNat, Nat.reduceAdd, Nat.reduceMul, Nat.reduceBEq, Nat.reduceLeDiff, Int.reduceLE, Int.reduceLT, Int.reduceEq, Int.reduceNeg, Int.reduceSub, Int.reduceMul, not_false_eq_true, true_and, and_true, and_self, Bool.or_false, Bool.false_or, Bool.or_true, Bool.true_or, List.length_nil, List.length_cons, Nat.zero_le, or_true, true_or, Nat.le_refl, ↓reduceIte, Nat.reduceEqDiff, forall_const, false_and, and_false, false_implies, implies_true, not_true_eq_false, or_false, false_or, ne_eq, jd_X0_runPlain, jf_X0, js_X0_plainly, js_X0_workN, js_X3_clear, cs_X0_runPlainN, jx_ck_c]
                  exact ⟨by omega, fun c => absurd c hy, fun c => fin⟩
                · simp (disch := decide) only [jx_u_j, jx_u_eq, q1]
                  have := hq.1
                  exact ⟨hw, by omega, by omega, by omega⟩
                · simp (disch := decide) only [jx_u_j, jx_u_eq, q1, jx_u_a, hq.1]
                  intro t0 b b0 b1
                  simp (disch := (unfold xr3 at hr; omega)) only [jx_u_a]
                  exact hv1 _ (by omega) (by omega) (by omega)
              have hN2 := hN (fun v g' M2 => jx_V D l (yX0_runPlain.cls, cX0_runPlain, 7, 3, [], 4, 3, 2000, yX0_runPlain.name) Po 93 [(60, n1, x), (63, n2, r), (0, n3, n), (0, 0, t), (0, 0, a), (80, 0, M' (x + 13) a), P6] [v] (3, 2000) g' M2) at93
              refine jx_runL (o := jo_X0) (cs := cs_X0_runPlainN) (hf := jx_nh) jo_X0_ok hc_X0_runPlainN (jx_HK_nil rfl) (fun p => p == 93) 60 ?_
              simp only [jw, ju, jx_tg, Int.cast_ofNat_Int, Int.reduceAdd, Int.reduceToNat, Nat.reduceAdd, Nat.reduceMul, Nat.reduceBEq, Nat.reduceLeDiff, Int.reduceLE, Int.reduceLT, Int.reduceEq, Int.reduceNeg, Int.reduceSub, Int.reduceMul, not_false_eq_true, true_and, and_true, and_self, Bool.or_false, Bool.false_or, Bool.or_true, Bool.true_or, List.length_nil, List.length_cons, Nat.zero_le, or_true, true_or, Nat.le_refl, ↓reduceIte, Nat.reduceEqDiff, forall_const, false_and, and_false, false_implies, implies_true, not_true_eq_false, or_false, false_or, ne_eq, jd_X0_runPlain, jf_X0, js_X0_plainly, js_X0_workN, js_X3_clear, cs_X0_runPlainN, jx_ck_c]
              exact ⟨Q1, a, ⟨hC1, by omega, hA1.symm, by omega, op 0 (by decide) (by decide)⟩, Q1, a, ⟨hC1, by omega, hA1.symm, by omega, op 1 (by decide) (by decide)⟩, Q1, a, ⟨hC1, by omega, hA1.symm, by omega, op 2 (by decide) (by decide)⟩, by omega, hN2⟩
          refine jx_runL (o := jo_X0) (cs := cs_X0_runPlain) (hf := jx_nh) jo_X0_ok hc_X0_runPlain (jx_HK_nil rfl) (fun p => p == 56 || p == 14 || p == 124) 40 ?_
          simp only [jw, ju, jx_tg, Int.cast_ofNat_Int, Int.reduceAdd, Int.reduceToNat, Nat.reduceAdd, Nat.reduceMul, Nat.reduceBEq, Nat.reduceLeDiff, Int.reduceLE, Int.reduceLT, Int.reduceEq, Int.reduceNeg, Int.reduceSub, Int.reduceMul, not_false_eq_true, true_and, and_true, and_self, Bool.or_false, Bool.false_or, Bool.or_true, Bool.true_or, List.length_nil, List.length_cons, Nat.zero_le, or_true, true_or, Nat.le_refl, ↓reduceIte, Nat.reduceEqDiff, forall_const, false_and, and_false, false_implies, implies_true, not_true_eq_false, or_false, false_or, ne_eq, jd_X0_runPlain, jf_X0, r5, f3, f4, lg2, js_X0_plainly, js_X0_workY, js_X3_clear, cs_X0_runPlain, jx_ck_c]
          rw [hM1] at at56
          exact ⟨by omega, fun c => by omega, fun c => ⟨by omega, k3, at56⟩⟩
    have I0 := xI_0 x0 hr hl hz
    obtain ⟨z1, z2, z3, z4, z5, z6⟩ := hz
    by_cases n0 : 0 < n
    · have st := fun P5 P6 => loop 4000 0 0 S _ P5 P6 (by omega) (by omega) (by omega) I0 ⟨z6, z1, z2, z3⟩ (fun j a b c => by omega) hP
      refine jx_runL (o := jo_X0) (cs := cs_X0_runPlain) (hf := jx_nh) jo_X0_ok hc_X0_runPlain (jx_HK_nil rfl) (fun p => p == 14) 40 ?_
      simp only [jw, ju, jx_tg, Int.cast_ofNat_Int, Int.reduceAdd, Int.reduceToNat, Nat.reduceAdd, Nat.reduceMul, Nat.reduceBEq, Nat.reduceLeDiff, Int.reduceLE, Int.reduceLT, Int.reduceEq, Int.reduceNeg, Int.reduceSub, Int.reduceMul, not_false_eq_true, true_and, and_true, and_self, Bool.or_false, Bool.false_or, Bool.or_true, Bool.true_or, List.length_nil, List.length_cons, Nat.zero_le, or_true, true_or, Nat.le_refl, ↓reduceIte, Nat.reduceEqDiff, forall_const, false_and, and_false, false_implies, implies_true, not_true_eq_false, or_false, false_or, ne_eq, jd_X0_runPlain, jf_X0, js_X0_plainly, js_X0_workY, js_X3_clear, cs_X0_runPlain, jx_ck_c]
      exact ⟨by omega, fun c => by omega, fun c => st _ _⟩
    · have fin := hP g (mu_clear M r) (by
        rw [show mp_go n 4000 0 0 S = S by unfold mp_go; rw [if_pos (by omega)]]
        exact ⟨rG_rf, I0, by omega, fun c => by omega⟩)
      refine jx_runL (o := jo_X0) (cs := cs_X0_runPlain) (hf := jx_nh) jo_X0_ok hc_X0_runPlain (jx_HK_nil rfl) (fun p => p == 14) 40 ?_
      simp only [jw, ju, jx_tg, Int.cast_ofNat_Int, Int.reduceAdd, Int.reduceToNat, Nat.reduceAdd, Nat.reduceMul, Nat.reduceBEq, Nat.reduceLeDiff, Int.reduceLE, Int.reduceLT, Int.reduceEq, Int.reduceNeg, Int.reduceSub, Int.reduceMul, not_false_eq_true, true_and, and_true, and_self, Bool.or_false, Bool.false_or, Bool.or_true, Bool.true_or, List.length_nil, List.length_cons, Nat.zero_le, or_true, true_or, Nat.le_refl, ↓reduceIte, Nat.reduceEqDiff, forall_const, false_and, and_false, false_implies, implies_true, not_true_eq_false, or_false, false_or, ne_eq, jd_X0_runPlain, jf_X0, js_X0_plainly, js_X0_workY, js_X3_clear, cs_X0_runPlain, jx_ck_c]
      exact ⟨by omega, fun c => fin, fun c => by omega⟩
  · exact hS.elim
