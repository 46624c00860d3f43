/-! the reference: latestBegin, tick -/
set_option maxRecDepth 100000
theorem mm_cnt_all {p : Int → Prop} : ∀ n : Nat, (∀ v : Int, 0 ≤ v → v < n → p v) → mm_cnt p n = n
  | 0, _ => rfl
  | k + 1, h => by
    have ih := mm_cnt_all (p := p) k (fun v a b => h v a (by omega))
    unfold mm_cnt
    rw [if_pos (h k (by omega) (by omega)), ih]
theorem mm_cnt_full {p : Int → Prop} (n : Nat) (h : n ≤ mm_cnt p n) : ∀ v : Int, 0 ≤ v → v < n → p v := by
  intro v a b
  apply Classical.byContradiction
  intro hp
  have h1 := mm_cnt_lt (p := p) (q := fun _ => True) n (fun _ _ _ _ => trivial) ⟨v, a, b, trivial, hp⟩
  have h2 := mm_cnt_le (fun _ => True) n
  omega
/-- the least solution is not great -/
theorem mm_least_ub {n m K : Int} {eA eB eW f : Int → Int} (hL : mm_Least n m eA eB eW f) (hE : mm_ends m eA eB) (hK : 0 ≤ K) (hw : ∀ e, 0 ≤ e → e < m → mm_on n eA eB e → eW e ≤ K) : ∀ v, 0 ≤ v → v < n → f v ≤ K * (n - 1) := by
  have step : ∀ k : Nat, (k : Int) < n → k < mm_cnt (fun v => min (f v) (K * k) = f v) n.toNat := by
    intro k
    induction k with
    | zero =>
      intro hn
      obtain ⟨v, a, b, c⟩ := mm_first hL (by omega)
      refine mm_cnt_pos n.toNat ⟨v, a, by omega, ?_⟩
      rw [c]
      show min 0 (K * ((0 : Nat) : Int)) = 0
      have : K * ((0 : Nat) : Int) = 0 := Int.mul_zero K
      omega
    | succ k ih =>
      intro hn
      have ih := ih (by omega)
      have e : K * ((k + 1 : Nat) : Int) = K * k + K := by rw [Int.natCast_add, Int.mul_add]; omega
      have hkk : 0 ≤ K * (k : Int) := Int.mul_nonneg hK (by omega)
      by_cases hne : ∃ v, 0 ≤ v ∧ v < n ∧ min (f v) (K * k) ≠ f v
      · obtain ⟨v, a, b, c, d⟩ := mm_grow (P := fun v => min (f v) (K * k)) (P' := fun v => min (f v) (K * ((k + 1 : Nat) : Int))) hL hE (fun v a b => by have := hL.1.1 v a b; omega) (fun v a b => by omega) (fun v a b => by omega) (fun e' a b c => by
          have h1 := hL.1.2 e' a b c
          have h2 := hw e' a b c
          omega) hne
        have := mm_cnt_lt (p := fun v => min (f v) (K * k) = f v) (q := fun v => min (f v) (K * ((k + 1 : Nat) : Int)) = f v) n.toNat (fun v a b z => by
          show min (f v) (K * ((k + 1 : Nat) : Int)) = f v
          have z : min (f v) (K * k) = f v := z
          omega) ⟨v, a, by omega, d, c⟩
        omega
      · rw [mm_cnt_all n.toNat (fun v a b => by
          apply Classical.byContradiction
          intro z
          refine hne ⟨v, a, by omega, fun w => z ?_⟩
          show min (f v) (K * ((k + 1 : Nat) : Int)) = f v
          omega)]
        omega
  intro v a b
  have h1 := step (n - 1).toNat (by omega)
  have h2 := mm_cnt_full (p := fun v => min (f v) (K * (((n - 1).toNat : Nat) : Int)) = f v) n.toNat (by omega) v a (by omega)
  have h2 : min (f v) (K * (((n - 1).toNat : Nat) : Int)) = f v := h2
  rw [Int.toNat_of_nonneg (by omega)] at h2
  omega
/-- when acts begin by edges alone, at the earliest and at the latest -/
noncomputable def mm_early (S : jx_M) : Int → Int := Classical.epsilon (fun f => mm_LeastE (S 0 9) (me_all S) (mm_wt (S 0 27)) f)
def mm_rev (E : mm_E) : mm_E := fun a b t d => E b a t d
noncomputable def mm_lag (S : jx_M) : Int → Int := Classical.epsilon (fun f => mm_LeastE (S 0 9) (mm_rev (me_all S)) (mm_wt (S 0 27)) f)
noncomputable def mm_last (S : jx_M) : Int := mm_max (mm_early S) (S 0 9).toNat
theorem mm_early_eq {S : jx_M} {f : Int → Int} (h : mm_LeastE (S 0 9) (me_all S) (mm_wt (S 0 27)) f) : ∀ v, 0 ≤ v → v < S 0 9 → mm_early S v = f v :=
  mm_leastE_unique (Classical.epsilon_spec (p := fun f => mm_LeastE (S 0 9) (me_all S) (mm_wt (S 0 27)) f) ⟨f, h⟩) h
theorem mm_lag_eq {S : jx_M} {f : Int → Int} (h : mm_LeastE (S 0 9) (mm_rev (me_all S)) (mm_wt (S 0 27)) f) : ∀ v, 0 ≤ v → v < S 0 9 → mm_lag S v = f v :=
  mm_leastE_unique (Classical.epsilon_spec (p := fun f => mm_LeastE (S 0 9) (mm_rev (me_all S)) (mm_wt (S 0 27)) f) ⟨f, h⟩) h
theorem mm_EO_rev {E : mm_E} {A B T U : Int → Int} {n : Int} (h : mm_EO E A B T U n) : mm_EO (mm_rev E) B A T U n :=
  ⟨fun e a b => h.1 e a b, fun a b t d q => by obtain ⟨e, x, y, z1, z2, z3, z4⟩ := h.2 b a t d q; exact ⟨e, x, y, z2, z1, z3, z4⟩⟩
theorem mm_max_congr {f g : Int → Int} : ∀ n : Nat, (∀ v : Int, 0 ≤ v → v < n → f v = g v) → mm_max f n = mm_max g n
  | 0, _ => rfl
  | k + 1, h => by
    unfold mm_max
    rw [mm_max_congr k (fun v a b => h v a (by omega)), h k (by omega) (by omega)]
theorem mm_max_ge (f : Int → Int) : ∀ (k : Nat) (v : Int), 0 ≤ v → v < k → f v ≤ mm_max f k
  | 0, v, a, b => by omega
  | k + 1, v, a, b => by
    unfold mm_max
    by_cases h : v = k
    · rw [h]; omega
    · have := mm_max_ge f k v a (by omega)
      omega
theorem mm_sol_rev {n m : Int} {eA eB eW f : Int → Int} (hE : mm_ends m eA eB) (h : mm_Sol n m eA eB eW f) : ∃ f', mm_Sol n m eB eA eW f' := by
  refine ⟨fun v => mm_max f n.toNat - f v, fun v a b => ?_, fun e a b c => ?_⟩
  · have := mm_max_ge f n.toNat v a (by omega)
    show 0 ≤ mm_max f n.toNat - f v
    omega
  · have := h.2 e a b ⟨c.2, c.1⟩
    show mm_max f n.toNat - f (eB e) + eW e ≤ mm_max f n.toNat - f (eA e)
    omega
def js_X13_latestBegin : jx_Sp := fun as g M Po => match as with
  | [(73, _, y), (0, _, a)] => (mB (mY M y) ∧ (1 ≤ M y 9 ∧ 1 ≤ M y 27 ∧ M y 27 ≤ 60) ∧ mm_Rg (mY M y) (M y 27) ∧ (0 ≤ a ∧ a < M y 9)) ∧ ∀ M', mQ (mY M y) (mY M' y) → mFr y M M' → Po (0, 0, mm_last (mY M y) - mm_lag (mY M y) a) g M'
  | _ => False
def cs_X13_latestBegin : jx_Cs := [(531, 1, 0, 0, js_X13_gather), (591, 2, 0, 0, js_X13_rests)]
theorem hc_X13_latestBegin {D : jx_D} {l : Launch} : jx_CsOK D l "LoopLaneModel" 3 cs_X13_latestBegin := List.forall_mem_cons.mpr ⟨jc_X13_177 (jt_X13_gather l) (fun as g M Po (h : js_X13_gather as g M Po) => by unfold js_X13_gather at h; split at h <;> first | exact h.elim | exact ⟨_, _, _, rfl, rfl⟩) (by decide), List.forall_mem_cons.mpr ⟨jc_X13_197 (jt_X13_rests l) (fun as g M Po (h : js_X13_rests as g M Po) => by unfold js_X13_rests at h; split at h <;> first | exact h.elim | exact ⟨_, _, _, rfl, rfl⟩) (by decide), fun _ h => absurd h List.not_mem_nil⟩⟩
set_option maxHeartbeats 4000000 in
theorem jt_X13_latestBegin (l : Launch) : jx_Ct l yX13_latestBegin (ws_ yX13_latestBegin cX13_latestBegin 8 (some .int)) 3 0 0 js_X13_latestBegin := by
  refine jx_Ct_c (rc := 0) (by decide) rfl (fun D as g M Po hS => ?_)
  unfold js_X13_latestBegin at hS
  split at hS
  · rename_i n1 y n2 a
    obtain ⟨⟨hB, h0, hR, ha⟩, hP⟩ := hS
    refine ⟨Nat.le_of_ble_eq_true rfl, ?_⟩
    have h9 := hB.1
    rw [mY_0] at h9
    refine jx_runL (o := jo_X13) (cs := cs_X13_latestBegin) (hf := jx_nh) jo_X13_ok hc_X13_latestBegin (jx_HK_nil rfl) (fun p => p == 4) 60 ?_
    simp only [jw, ju, jx_tg, Int.cast_ofNat_Int, Int.reduceAdd, Int.reduceToNat, Nat.reduceAdd, Nat.reduceMul, Nat.reduceBEq, Nat.reduceLeDiff, Int.reduceLE, Int.reduceLT, Int.reduceEq, Int.reduceNeg, Int.reduceSub, Int.reduceMul, not_false_eq_true, true_and, and_true, and_self, Bool.or_false, Bool.false_or, Bool.or_true, Bool.true_or, List.length_nil, List.length_cons, Nat.zero_le, or_true, true_or, Nat.le_refl, ↓reduceIte, Nat.reduceEqDiff, forall_const, false_and, and_false, false_implies, implies_true, not_true_eq_false, or_false, false_or, ne_eq, jd_X13_latestBegin, jf_X13, js_X13_gather, js_X13_rests, cs_X13_latestBegin, jx_ck_c]
    refine ⟨mB_W hB, fun M1 k1 => ?_⟩
    have q1 := mEg_Q k1
    have z1 := mQ_Z q1
    have e9 : M1 y 9 = M y 9 := by have := z1.2.1; rw [mY_0, mY_0] at this; exact this
    have e27 : M1 y 27 = M y 27 := by have := mQ_0 q1 (k := 27) (by decide); rw [mY_0, mY_0] at this; exact this
    have ek := mEg_eok hB k1
    have hEO := k1.2.1
    have hsol : ∀ f, mm_Sol (M y 9) (M1 y 20) (M1 (y + 15)) (M1 (y + 16)) (mm_wr y (M y 27) M1) f ↔ mm_SolE (M y 9) (me_all (mY M y)) (mm_wt (M y 27)) f := fun f => mm_sol_E (w := mm_wt (M y 27)) hEO
    have hend : mm_ends (M1 y 20) (M1 (y + 15)) (M1 (y + 16)) := fun e a c => ⟨(ek.1.2 e a c).1.1, (ek.1.2 e a c).2.1.1⟩
    have hend' : mm_ends (M1 y 20) (M1 (y + 16)) (M1 (y + 15)) := fun e a c => ⟨(hend e a c).2, (hend e a c).1⟩
    refine jx_runL (o := jo_X13) (cs := cs_X13_latestBegin) (hf := jx_nh) jo_X13_ok hc_X13_latestBegin (jx_HK_nil rfl) (fun p => p == 13) 60 ?_
    simp only [jw, ju, jx_tg, Int.cast_ofNat_Int, Int.reduceAdd, Int.reduceToNat, Nat.reduceAdd, Nat.reduceMul, Nat.reduceBEq, Nat.reduceLeDiff, Int.reduceLE, Int.reduceLT, Int.reduceEq, Int.reduceNeg, Int.reduceSub, Int.reduceMul, not_false_eq_true, true_and, and_true, and_self, Bool.or_false, Bool.false_or, Bool.or_true, Bool.true_or, List.length_nil, List.length_cons, Nat.zero_le, or_true, true_or, Nat.le_refl, ↓reduceIte, Nat.reduceEqDiff, forall_const, false_and, and_false, false_implies, implies_true, not_true_eq_false, or_false, false_or, ne_eq, jd_X13_latestBegin, jf_X13, e27, js_X13_gather, js_X13_rests, cs_X13_latestBegin, jx_ck_c]
    rw [e9]
    refine ⟨⟨by omega, by omega, ek.1⟩, fun r M2 j1 j2 => ?_⟩
    have hex : ∃ f, mm_Sol (M y 9) (M1 y 20) (M1 (y + 15)) (M1 (y + 16)) (mm_wr y (M y 27) M1) f := by
      obtain ⟨f, hf⟩ := hR
      rw [mY_0] at hf
      exact ⟨f, (hsol f).mpr hf⟩
    have hL : mm_Least (M y 9) (M1 y 20) (M1 (y + 15)) (M1 (y + 16)) (mm_wr y (M y 27) M1) (M2 (y + 28)) := by
      rcases j1 with ⟨_, j1⟩ | ⟨_, j1⟩
      · exact j1
      · exact absurd hex j1
    have hexR := mm_sol_rev hend hL.1
    have hub : ∀ v, 0 ≤ v → v < M y 9 → 0 ≤ M2 (y + 28) v ∧ M2 (y + 28) v ≤ 750 := fun v v0 v1 => by
      have h1 := hL.1.1 v v0 v1
      have h2 := mm_least_ub (K := 50) hL hend (by omega) (fun e a c _ => by
        have := ek.1.2 e a c
        have bd := mm_bd (b := M y 27) (by omega) this.2.2.2
        show M1 (y + 17) e - M y 27 * M1 (y + 18) e ≤ 50
        omega) v v0 v1
      omega
    have early : ∀ v, 0 ≤ v → v < M y 9 → mm_early (mY M y) v = M2 (y + 28) v := fun v v0 v1 => mm_early_eq (S := mY M y) (f := M2 (y + 28)) (by rw [mY_0, mY_0]; exact (mm_least_E (w := mm_wt (M y 27)) hEO).mp hL) v v0 (by rw [mY_0]; exact v1)
    have hlast : mm_last (mY M y) = mm_max (M2 (y + 28)) (M y 9).toNat := by
      unfold mm_last
      rw [mY_0]
      exact mm_max_congr _ (fun v v0 v1 => early v v0 (by omega))
    have fr : ∀ M', mPf y M1 M' → M' y 9 = M y 9 ∧ M' y 20 = M1 y 20 ∧ M' y 27 = M y 27 := fun M' q => ⟨by rw [mPf_0 q]; exact e9, mPf_0 q, by rw [mPf_0 q]; exact e27⟩
    obtain ⟨last, hl⟩ : ∃ q, q = mm_max (M2 (y + 28)) (M y 9).toNat := ⟨_, rfl⟩
    have hlr := mm_max_r (M2 (y + 28)) 750 (by omega) (M y 9).toNat (fun v a b => (hub v a (by omega)).2)
    rw [← hl] at hlr hlast
    rw [hlast] at hP
    have at201 : ∀ (M' : jx_M) (P2 P4 P5 P6 P7 : jx_A), mPf y M1 M' → mm_Least (M y 9) (M1 y 20) (M1 (y + 16)) (M1 (y + 15)) (mm_wr y (M y 27) M1) (fun v => last - M' (y + 28) v) → jx_V D l (yX13_latestBegin.cls, cX13_latestBegin, 8, 0, [], 3, 0, 0, yX13_latestBegin.name) Po 201 [(73, n1, y), (0, n2, a), P2, (0, 0, last), P4, P5, P6, P7] [] (0, 0) g (M') := by
      intro M' P2 P4 P5 P6 P7 i1 i2
      have hg := mm_lag_eq (S := mY M y) (f := fun v => last - M' (y + 28) v) (by rw [mY_0, mY_0]; exact (mm_least_E (w := mm_wt (M y 27)) (mm_EO_rev hEO)).mp i2) a ha.1 (by rw [mY_0]; exact ha.2)
      refine jx_runL (o := jo_X13) (cs := cs_X13_latestBegin) (hf := jx_nh) jo_X13_ok hc_X13_latestBegin (jx_HK_nil rfl) (fun _ => false) 60 ?_
      simp only [jw, ju, jx_tg, Int.cast_ofNat_Int, Int.reduceAdd, Int.reduceToNat, Nat.reduceAdd, Nat.reduceMul, Nat.reduceBEq, Nat.reduceLeDiff, Int.reduceLE, Int.reduceLT, Int.reduceEq, Int.reduceNeg, Int.reduceSub, Int.reduceMul, not_false_eq_true, true_and, and_true, and_self, Bool.or_false, Bool.false_or, Bool.or_true, Bool.true_or, List.length_nil, List.length_cons, Nat.zero_le, or_true, true_or, Nat.le_refl, ↓reduceIte, Nat.reduceEqDiff, forall_const, false_and, and_false, false_implies, implies_true, not_true_eq_false, or_false, false_or, ne_eq, jd_X13_latestBegin, jf_X13, js_X13_gather, js_X13_rests, cs_X13_latestBegin, jx_ck_c]
      refine ⟨by omega, ?_⟩
      have := hP M' (mQ_tr q1 (mPf_Q i1)) (mFr_tr (mEg_Fr k1) (mPf_Fr i1))
      rw [hg, show last - (last - M' (y + 28) a) = M' (y + 28) a by omega] at this
      exact this
    have inner : ∀ (r : Nat) (P : Int → Int) (P2 : jx_A), (r : Int) ≤ M y 9 → (∀ (M' : jx_M) (P6 P7 : jx_A), mPf y M1 M' → mm_ps (M y 9) (M1 y 20) (M1 (y + 16)) (M1 (y + 15)) (mm_wr y (M y 27) M1) P (fun v => last - M' (y + 28) v) (M1 y 20) → (∀ v, 0 ≤ v → v < M y 9 → 0 ≤ last - M' (y + 28) v ∧ last - M' (y + 28) v ≤ 36000 * (r + 1)) →
          ((∀ v, 0 ≤ v → v < M y 9 → last - M' (y + 28) v = P v) → jx_V D l (yX13_latestBegin.cls, cX13_latestBegin, 8, 0, [], 3, 0, 0, yX13_latestBegin.name) Po 195 [(73, n1, y), (0, n2, a), P2, (0, 0, last), (0, 0, 0), (0, 0, (r : Int)), P6, P7] [] (0, 0) g (M')) ∧ ((∃ v, 0 ≤ v ∧ v < M y 9 ∧ last - M' (y + 28) v ≠ P v) → jx_V D l (yX13_latestBegin.cls, cX13_latestBegin, 8, 0, [], 3, 0, 0, yX13_latestBegin.name) Po 195 [(73, n1, y), (0, n2, a), P2, (0, 0, last), (0, 0, 1), (0, 0, (r : Int)), P6, P7] [] (0, 0) g (M'))) →
        ∀ (f e : Nat) (mv : Int) (M' : jx_M) (P7 : jx_A), (e : Int) + f = M1 y 20 → mPf y M1 M' → mm_ps (M y 9) (M1 y 20) (M1 (y + 16)) (M1 (y + 15)) (mm_wr y (M y 27) M1) P (fun v => last - M' (y + 28) v) e → (∀ v, 0 ≤ v → v < M y 9 → 0 ≤ last - M' (y + 28) v ∧ last - M' (y + 28) v ≤ 36000 * r + 50 * e) → ((mv = 0 ∧ ∀ v, 0 ≤ v → v < M y 9 → last - M' (y + 28) v = P v) ∨ (mv = 1 ∧ ∃ v, 0 ≤ v ∧ v < M y 9 ∧ last - M' (y + 28) v ≠ P v)) →
        jx_V D l (yX13_latestBegin.cls, cX13_latestBegin, 8, 0, [], 3, 0, 0, yX13_latestBegin.name) Po 108 [(73, n1, y), (0, n2, a), P2, (0, 0, last), (0, 0, mv), (0, 0, (r : Int)), (0, 0, (e : Int)), P7] [] (0, 0) g (M') := by
      intro r P P2 hr hE f
      induction f with
      | zero =>
        intro e mv M' P7 he k1 k2 k3 k4
        have q20 := (fr M' k1).2.1
        have hm := ek.1.1
        obtain ⟨g1, g2⟩ := hE M' (0, 0, (e : Int)) P7 k1 (by rw [show M1 y 20 = e by omega] at k2 ⊢; exact k2) (fun v a c => by have := k3 v a c; omega)
        refine jx_runL (o := jo_X13) (cs := cs_X13_latestBegin) (hf := jx_nh) jo_X13_ok hc_X13_latestBegin (jx_HK_nil rfl) (fun p => p == 108 || p == 195) 60 ?_
        simp only [jw, ju, jx_tg, Int.cast_ofNat_Int, Int.reduceAdd, Int.reduceToNat, Nat.reduceAdd, Nat.reduceMul, Nat.reduceBEq, Nat.reduceLeDiff, Int.reduceLE, Int.reduceLT, Int.reduceEq, Int.reduceNeg, Int.reduceSub, Int.reduceMul, not_false_eq_true, true_and, and_true, and_self, Bool.or_false, Bool.false_or, Bool.or_true, Bool.true_or, List.length_nil, List.length_cons, Nat.zero_le, or_true, true_or, Nat.le_refl, ↓reduceIte, Nat.reduceEqDiff, forall_const, false_and, and_false, false_implies, implies_true, not_true_eq_false, or_false, false_or, ne_eq, jd_X13_latestBegin, jf_X13, q20, js_X13_gather, js_X13_rests, cs_X13_latestBegin, jx_ck_c]
        refine ⟨by omega, fun c => ?_, fun c => by omega⟩
        rcases k4 with ⟨rfl, k4⟩ | ⟨rfl, k4⟩
        · exact g1 k4
        · exact g2 k4
      | succ f ih =>
        intro e mv M' P7 he k1 k2 k3 k4
        have q20 := (fr M' k1).2.1
        have q27 := (fr M' k1).2.2
        have q15 : M' (y + 15) e = M1 (y + 15) e := k1 _ _ (by omega)
        have q16 : M' (y + 16) e = M1 (y + 16) e := k1 _ _ (by omega)
        have q17 : M' (y + 17) e = M1 (y + 17) e := k1 _ _ (by omega)
        have q18 : M' (y + 18) e = M1 (y + 18) e := k1 _ _ (by omega)
        have hm := ek.1.1
        obtain ⟨b1, b2, b3, b4⟩ := ek.1.2 e (by omega) (by omega)
        have bd := mm_bd (b := M y 27) (by omega) b4
        have p1 := k3 _ b1.1 b1.2
        have p2 := k3 _ b2.1 b2.2
        have hx := ih (e + 1)
        have ew : mm_wr y (M y 27) M1 e = M1 (y + 17) e - M y 27 * M1 (y + 18) e := rfl
        refine jx_runL (o := jo_X13) (cs := cs_X13_latestBegin) (hf := jx_nh) jo_X13_ok hc_X13_latestBegin (jx_HK_nil rfl) (fun p => p == 108 || p == 172) 60 ?_
        simp only [jw, ju, jx_tg, Int.cast_ofNat_Int, Int.reduceAdd, Int.reduceToNat, Nat.reduceAdd, Nat.reduceMul, Nat.reduceBEq, Nat.reduceLeDiff, Int.reduceLE, Int.reduceLT, Int.reduceEq, Int.reduceNeg, Int.reduceSub, Int.reduceMul, not_false_eq_true, true_and, and_true, and_self, Bool.or_false, Bool.false_or, Bool.or_true, Bool.true_or, List.length_nil, List.length_cons, Nat.zero_le, or_true, true_or, Nat.le_refl, ↓reduceIte, Nat.reduceEqDiff, forall_const, false_and, and_false, false_implies, implies_true, not_true_eq_false, or_false, false_or, ne_eq, jd_X13_latestBegin, jf_X13, q20, q15, q16, q17, q18, q27, js_X13_gather, js_X13_rests, cs_X13_latestBegin, jx_ck_c]
        refine ⟨by omega, fun c => by omega, fun c => ⟨by omega, by omega, by omega, by omega, by omega, by omega, by omega, fun c2 => ?_, fun c2 => ?_⟩⟩
        · refine jx_runL (o := jo_X13) (cs := cs_X13_latestBegin) (hf := jx_nh) jo_X13_ok hc_X13_latestBegin (jx_HK_nil rfl) (fun p => p == 108) 60 ?_
          simp only [jw, ju, jx_tg, Int.cast_ofNat_Int, Int.reduceAdd, Int.reduceToNat, Nat.reduceAdd, Nat.reduceMul, Nat.reduceBEq, Nat.reduceLeDiff, Int.reduceLE, Int.reduceLT, Int.reduceEq, Int.reduceNeg, Int.reduceSub, Int.reduceMul, not_false_eq_true, true_and, and_true, and_self, Bool.or_false, Bool.false_or, Bool.or_true, Bool.true_or, List.length_nil, List.length_cons, Nat.zero_le, or_true, true_or, Nat.le_refl, ↓reduceIte, Nat.reduceEqDiff, forall_const, false_and, and_false, false_implies, implies_true, not_true_eq_false, or_false, false_or, ne_eq, jd_X13_latestBegin, jf_X13, q15, js_X13_gather, js_X13_rests, cs_X13_latestBegin, jx_ck_c]
          refine ⟨by omega, by omega, hx 1 _ _ (by omega) (mPf_u k1) (mm_ps_y (e := e) (Q' := fun v => last - jx_u M' (y + 28) (M1 (y + 15) e) (M' (y + 28) (M1 (y + 16) e) - M1 (y + 17) e + M y 27 * M1 (y + 18) e) (y + 28) v) hend' (by omega) k2 ⟨b2.2, b1.2⟩ ?_ ?_ ?_) (fun v a c => ?_) (Or.inr ⟨rfl, M1 (y + 15) e, b1.1, b1.2, ?_⟩)⟩
          · rw [ew]; omega
          · show last - jx_u M' (y + 28) (M1 (y + 15) e) _ (y + 28) (M1 (y + 15) e) = _
            rw [jx_u_eq, ew]; omega
          · intro v hv
            show last - jx_u M' (y + 28) (M1 (y + 15) e) _ (y + 28) v = _
            rw [jx_u_j _ _ _ _ _ _ hv]
          · by_cases hv : v = M1 (y + 15) e
            · rw [hv, jx_u_eq]
              omega
            · rw [jx_u_j _ _ _ _ _ _ hv]
              have := k3 v a c
              omega
          · rw [jx_u_eq]
            have : P (M1 (y + 15) e) ≤ last - M' (y + 28) (M1 (y + 15) e) := k2.1 _ b1.1 b1.2
            omega
        · refine hx mv _ _ (by omega) k1 (mm_ps_n (e := e) hend' (by omega) k2 (fun _ => ?_)) (fun v a c => by have := k3 v a c; omega) k4
          rw [ew]; omega
    have rounds : ∀ (f r : Nat) (mv : Int) (M' : jx_M) (P2 P6 P7 : jx_A), (r : Int) + f = M y 9 + 1 → mPf y M1 M' → (mv = 1 ∧ mm_rd (M y 9) (M1 y 20) (M1 (y + 16)) (M1 (y + 15)) (mm_wr y (M y 27) M1) (fun v => last - M' (y + 28) v) r ∨ mv = 0 ∧ mm_Least (M y 9) (M1 y 20) (M1 (y + 16)) (M1 (y + 15)) (mm_wr y (M y 27) M1) (fun v => last - M' (y + 28) v)) → (∀ v, 0 ≤ v → v < M y 9 → 0 ≤ last - M' (y + 28) v ∧ last - M' (y + 28) v ≤ 36000 * r) → jx_V D l (yX13_latestBegin.cls, cX13_latestBegin, 8, 0, [], 3, 0, 0, yX13_latestBegin.name) Po 88 [(73, n1, y), (0, n2, a), P2, (0, 0, last), (0, 0, mv), (0, 0, (r : Int)), P6, P7] [] (0, 0) g (M') := by
      intro f
      induction f with
      | zero =>
        intro r mv M' P2 P6 P7 hr k1 k2 k3
        rcases k2 with ⟨rfl, k2⟩ | ⟨rfl, k2⟩
        · exact absurd hexR (mm_rd_end k2 (by omega) (by omega))
        · refine jx_runL (o := jo_X13) (cs := cs_X13_latestBegin) (hf := jx_nh) jo_X13_ok hc_X13_latestBegin (jx_HK_nil rfl) (fun p => p == 201) 60 ?_
          simp only [jw, ju, jx_tg, Int.cast_ofNat_Int, Int.reduceAdd, Int.reduceToNat, Nat.reduceAdd, Nat.reduceMul, Nat.reduceBEq, Nat.reduceLeDiff, Int.reduceLE, Int.reduceLT, Int.reduceEq, Int.reduceNeg, Int.reduceSub, Int.reduceMul, not_false_eq_true, true_and, and_true, and_self, Bool.or_false, Bool.false_or, Bool.or_true, Bool.true_or, List.length_nil, List.length_cons, Nat.zero_le, or_true, true_or, Nat.le_refl, ↓reduceIte, Nat.reduceEqDiff, forall_const, false_and, and_false, false_implies, implies_true, not_true_eq_false, or_false, false_or, ne_eq, jd_X13_latestBegin, jf_X13, js_X13_gather, js_X13_rests, cs_X13_latestBegin, jx_ck_c]
          exact at201 M' _ _ _ _ _ k1 k2
      | succ f ih =>
        intro r mv M' P2 P6 P7 hr k1 k2 k3
        rcases k2 with ⟨rfl, k2⟩ | ⟨rfl, k2⟩
        · have q9 := (fr M' k1).1
          have hm := ek.1.1
          refine jx_runL (o := jo_X13) (cs := cs_X13_latestBegin) (hf := jx_nh) jo_X13_ok hc_X13_latestBegin (jx_HK_nil rfl) (fun p => p == 108 || p == 201) 60 ?_
          simp only [jw, ju, jx_tg, Int.cast_ofNat_Int, Int.reduceAdd, Int.reduceToNat, Nat.reduceAdd, Nat.reduceMul, Nat.reduceBEq, Nat.reduceLeDiff, Int.reduceLE, Int.reduceLT, Int.reduceEq, Int.reduceNeg, Int.reduceSub, Int.reduceMul, not_false_eq_true, true_and, and_true, and_self, Bool.or_false, Bool.false_or, Bool.or_true, Bool.true_or, List.length_nil, List.length_cons, Nat.zero_le, or_true, true_or, Nat.le_refl, ↓reduceIte, Nat.reduceEqDiff, forall_const, false_and, and_false, false_implies, implies_true, not_true_eq_false, or_false, false_or, ne_eq, jd_X13_latestBegin, jf_X13, q9, js_X13_gather, js_X13_rests, cs_X13_latestBegin, jx_ck_c]
          refine ⟨by omega, fun c => by omega, fun c => inner r (fun v => last - M' (y + 28) v) _ (by omega) (fun M3 P6 P7 i1 i2 i3 => ⟨fun i4 => ?_, fun i4 => ?_⟩) (M1 y 20).toNat 0 0 M' _ (by omega) k1 (mm_ps_0 (fun _ _ _ => rfl)) (fun v a c => by have := k3 v a c; omega) (Or.inl ⟨rfl, fun _ _ _ => rfl⟩)⟩
          · refine jx_runL (o := jo_X13) (cs := cs_X13_latestBegin) (hf := jx_nh) jo_X13_ok hc_X13_latestBegin (jx_HK_nil rfl) (fun p => p == 88) 60 ?_
            simp only [jw, ju, jx_tg, Int.cast_ofNat_Int, Int.reduceAdd, Int.reduceToNat, Nat.reduceAdd, Nat.reduceMul, Nat.reduceBEq, Nat.reduceLeDiff, Int.reduceLE, Int.reduceLT, Int.reduceEq, Int.reduceNeg, Int.reduceSub, Int.reduceMul, not_false_eq_true, true_and, and_true, and_self, Bool.or_false, Bool.false_or, Bool.or_true, Bool.true_or, List.length_nil, List.length_cons, Nat.zero_le, or_true, true_or, Nat.le_refl, ↓reduceIte, Nat.reduceEqDiff, forall_const, false_and, and_false, false_implies, implies_true, not_true_eq_false, or_false, false_or, ne_eq, jd_X13_latestBegin, jf_X13, js_X13_gather, js_X13_rests, cs_X13_latestBegin, jx_ck_c]
            exact ih (r + 1) 0 M3 _ _ _ (by omega) i1 (Or.inr ⟨rfl, mm_rd_sol hend' k2 i2 i4⟩) (fun v a c => by have := i3 v a c; omega)
          · refine jx_runL (o := jo_X13) (cs := cs_X13_latestBegin) (hf := jx_nh) jo_X13_ok hc_X13_latestBegin (jx_HK_nil rfl) (fun p => p == 88) 60 ?_
            simp only [jw, ju, jx_tg, Int.cast_ofNat_Int, Int.reduceAdd, Int.reduceToNat, Nat.reduceAdd, Nat.reduceMul, Nat.reduceBEq, Nat.reduceLeDiff, Int.reduceLE, Int.reduceLT, Int.reduceEq, Int.reduceNeg, Int.reduceSub, Int.reduceMul, not_false_eq_true, true_and, and_true, and_self, Bool.or_false, Bool.false_or, Bool.or_true, Bool.true_or, List.length_nil, List.length_cons, Nat.zero_le, or_true, true_or, Nat.le_refl, ↓reduceIte, Nat.reduceEqDiff, forall_const, false_and, and_false, false_implies, implies_true, not_true_eq_false, or_false, false_or, ne_eq, jd_X13_latestBegin, jf_X13, js_X13_gather, js_X13_rests, cs_X13_latestBegin, jx_ck_c]
            exact ih (r + 1) 1 M3 _ _ _ (by omega) i1 (Or.inl ⟨rfl, mm_rd_next hend' k2 i2 i4⟩) (fun v a c => by have := i3 v a c; omega)
        · refine jx_runL (o := jo_X13) (cs := cs_X13_latestBegin) (hf := jx_nh) jo_X13_ok hc_X13_latestBegin (jx_HK_nil rfl) (fun p => p == 201) 60 ?_
          simp only [jw, ju, jx_tg, Int.cast_ofNat_Int, Int.reduceAdd, Int.reduceToNat, Nat.reduceAdd, Nat.reduceMul, Nat.reduceBEq, Nat.reduceLeDiff, Int.reduceLE, Int.reduceLT, Int.reduceEq, Int.reduceNeg, Int.reduceSub, Int.reduceMul, not_false_eq_true, true_and, and_true, and_self, Bool.or_false, Bool.false_or, Bool.or_true, Bool.true_or, List.length_nil, List.length_cons, Nat.zero_le, or_true, true_or, Nat.le_refl, ↓reduceIte, Nat.reduceEqDiff, forall_const, false_and, and_false, false_implies, implies_true, not_true_eq_false, or_false, false_or, ne_eq, jd_X13_latestBegin, jf_X13, js_X13_gather, js_X13_rests, cs_X13_latestBegin, jx_ck_c]
          exact at201 M' _ _ _ _ _ k1 k2
    have setl : ∀ (f v : Nat) (M' : jx_M) (P2 P5 P6 P7 : jx_A), (v : Int) + f = M y 9 → mPf y M1 M' → (∀ u : Int, 0 ≤ u → u < v → M' (y + 28) u = last) → jx_V D l (yX13_latestBegin.cls, cX13_latestBegin, 8, 0, [], 3, 0, 0, yX13_latestBegin.name) Po 59 [(73, n1, y), (0, n2, a), P2, (0, 0, last), (0, 0, (v : Int)), P5, P6, P7] [] (0, 0) g (M') := by
      intro f
      induction f with
      | zero =>
        intro v M' P2 P5 P6 P7 hv k1 k2
        have q9 := (fr M' k1).1
        refine jx_runL (o := jo_X13) (cs := cs_X13_latestBegin) (hf := jx_nh) jo_X13_ok hc_X13_latestBegin (jx_HK_nil rfl) (fun p => p == 59 || p == 88) 60 ?_
        simp only [jw, ju, jx_tg, Int.cast_ofNat_Int, Int.reduceAdd, Int.reduceToNat, Nat.reduceAdd, Nat.reduceMul, Nat.reduceBEq, Nat.reduceLeDiff, Int.reduceLE, Int.reduceLT, Int.reduceEq, Int.reduceNeg, Int.reduceSub, Int.reduceMul, not_false_eq_true, true_and, and_true, and_self, Bool.or_false, Bool.false_or, Bool.or_true, Bool.true_or, List.length_nil, List.length_cons, Nat.zero_le, or_true, true_or, Nat.le_refl, ↓reduceIte, Nat.reduceEqDiff, forall_const, false_and, and_false, false_implies, implies_true, not_true_eq_false, or_false, false_or, ne_eq, jd_X13_latestBegin, jf_X13, q9, js_X13_gather, js_X13_rests, cs_X13_latestBegin, jx_ck_c]
        exact ⟨by omega, fun c => rounds (M y 9 + 1).toNat 0 1 M' _ _ _ (by omega) k1 (Or.inl ⟨rfl, mm_rd_0 (by omega) (fun u a c => by rw [k2 u a (by omega)]; omega)⟩) (fun u a c => by rw [k2 u a (by omega)]; omega), fun c => by omega⟩
      | succ f ih =>
        intro v M' P2 P5 P6 P7 hv k1 k2
        have q9 := (fr M' k1).1
        refine jx_runL (o := jo_X13) (cs := cs_X13_latestBegin) (hf := jx_nh) jo_X13_ok hc_X13_latestBegin (jx_HK_nil rfl) (fun p => p == 59 || p == 88) 60 ?_
        simp only [jw, ju, jx_tg, Int.cast_ofNat_Int, Int.reduceAdd, Int.reduceToNat, Nat.reduceAdd, Nat.reduceMul, Nat.reduceBEq, Nat.reduceLeDiff, Int.reduceLE, Int.reduceLT, Int.reduceEq, Int.reduceNeg, Int.reduceSub, Int.reduceMul, not_false_eq_true, true_and, and_true, and_self, Bool.or_false, Bool.false_or, Bool.or_true, Bool.true_or, List.length_nil, List.length_cons, Nat.zero_le, or_true, true_or, Nat.le_refl, ↓reduceIte, Nat.reduceEqDiff, forall_const, false_and, and_false, false_implies, implies_true, not_true_eq_false, or_false, false_or, ne_eq, jd_X13_latestBegin, jf_X13, q9, js_X13_gather, js_X13_rests, cs_X13_latestBegin, jx_ck_c]
        refine ⟨by omega, fun c => by omega, fun c => ⟨by omega, ih (v + 1) _ _ _ _ _ (by omega) (mPf_u k1) (fun u a d => ?_)⟩⟩
        by_cases hu : u = v
        · rw [hu, jx_u_eq]
        · rw [jx_u_j _ _ _ _ _ _ hu]
          exact k2 u a (by omega)
    have mx : ∀ (f k : Nat) (P2 P5 P6 P7 : jx_A), (k : Int) + f = M y 9 → jx_V D l (yX13_latestBegin.cls, cX13_latestBegin, 8, 0, [], 3, 0, 0, yX13_latestBegin.name) Po 18 [(73, n1, y), (0, n2, a), P2, (0, 0, mm_max (M2 (y + 28)) k), (0, 0, (k : Int)), P5, P6, P7] [] (0, 0) g (M2) := by
      intro f
      induction f with
      | zero =>
        intro k P2 P5 P6 P7 hk
        have q9 := (fr M2 j2).1
        rw [show mm_max (M2 (y + 28)) k = last by rw [hl, show (M y 9).toNat = k by omega]]
        refine jx_runL (o := jo_X13) (cs := cs_X13_latestBegin) (hf := jx_nh) jo_X13_ok hc_X13_latestBegin (jx_HK_nil rfl) (fun p => p == 18 || p == 59) 60 ?_
        simp only [jw, ju, jx_tg, Int.cast_ofNat_Int, Int.reduceAdd, Int.reduceToNat, Nat.reduceAdd, Nat.reduceMul, Nat.reduceBEq, Nat.reduceLeDiff, Int.reduceLE, Int.reduceLT, Int.reduceEq, Int.reduceNeg, Int.reduceSub, Int.reduceMul, not_false_eq_true, true_and, and_true, and_self, Bool.or_false, Bool.false_or, Bool.or_true, Bool.true_or, List.length_nil, List.length_cons, Nat.zero_le, or_true, true_or, Nat.le_refl, ↓reduceIte, Nat.reduceEqDiff, forall_const, false_and, and_false, false_implies, implies_true, not_true_eq_false, or_false, false_or, ne_eq, jd_X13_latestBegin, jf_X13, q9, js_X13_gather, js_X13_rests, cs_X13_latestBegin, jx_ck_c]
        exact ⟨by omega, fun c => setl (M y 9).toNat 0 M2 _ _ _ _ (by omega) j2 (fun u a c => by omega), fun c => by omega⟩
      | succ f ih =>
        intro k P2 P5 P6 P7 hk
        have q9 := (fr M2 j2).1
        have u1 := hub k (by omega) (by omega)
        have m1 := mm_max_r (M2 (y + 28)) 750 (by omega) k (fun v a b => (hub v a (by omega)).2)
        have hx := fun P2 => ih (k + 1) P2 P5 P6 P7 (by omega)
        rw [show mm_max (M2 (y + 28)) (k + 1) = max (mm_max (M2 (y + 28)) k) (M2 (y + 28) k) from rfl] at hx
        refine jx_runL (o := jo_X13) (cs := cs_X13_latestBegin) (hf := jx_nh) jo_X13_ok hc_X13_latestBegin (jx_HK_nil rfl) (fun p => p == 18 || p == 59) 60 ?_
        simp only [jw, ju, jx_tg, Int.cast_ofNat_Int, Int.reduceAdd, Int.reduceToNat, Nat.reduceAdd, Nat.reduceMul, Nat.reduceBEq, Nat.reduceLeDiff, Int.reduceLE, Int.reduceLT, Int.reduceEq, Int.reduceNeg, Int.reduceSub, Int.reduceMul, not_false_eq_true, true_and, and_true, and_self, Bool.or_false, Bool.false_or, Bool.or_true, Bool.true_or, List.length_nil, List.length_cons, Nat.zero_le, or_true, true_or, Nat.le_refl, ↓reduceIte, Nat.reduceEqDiff, forall_const, false_and, and_false, false_implies, implies_true, not_true_eq_false, or_false, false_or, ne_eq, jd_X13_latestBegin, jf_X13, q9, js_X13_gather, js_X13_rests, cs_X13_latestBegin, jx_ck_c]
        refine ⟨by omega, fun c => by omega, fun c => ⟨by omega, by omega, fun c2 => ?_, fun c2 => ⟨by omega, ?_⟩⟩⟩
        · rw [show max (mm_max (M2 (y + 28)) k) (M2 (y + 28) k) = mm_max (M2 (y + 28)) k by omega] at hx
          exact hx _
        · rw [show max (mm_max (M2 (y + 28)) k) (M2 (y + 28) k) = M2 (y + 28) k by omega] at hx
          exact hx _
    refine jx_runL (o := jo_X13) (cs := cs_X13_latestBegin) (hf := jx_nh) jo_X13_ok hc_X13_latestBegin (jx_HK_nil rfl) (fun p => p == 18) 60 ?_
    simp only [jw, ju, jx_tg, Int.cast_ofNat_Int, Int.reduceAdd, Int.reduceToNat, Nat.reduceAdd, Nat.reduceMul, Nat.reduceBEq, Nat.reduceLeDiff, Int.reduceLE, Int.reduceLT, Int.reduceEq, Int.reduceNeg, Int.reduceSub, Int.reduceMul, not_false_eq_true, true_and, and_true, and_self, Bool.or_false, Bool.false_or, Bool.or_true, Bool.true_or, List.length_nil, List.length_cons, Nat.zero_le, or_true, true_or, Nat.le_refl, ↓reduceIte, Nat.reduceEqDiff, forall_const, false_and, and_false, false_implies, implies_true, not_true_eq_false, or_false, false_or, ne_eq, jd_X13_latestBegin, jf_X13, js_X13_gather, js_X13_rests, cs_X13_latestBegin, jx_ck_c]
    exact mx (M y 9).toNat 0 _ _ _ _ (by omega)
  · exact hS.elim
noncomputable def f_tick (a w : Int) (S : jx_M) : mR := if S 0 27 = 0 then mno (-2) S else @ite _ (mm_isa S a) (Classical.propDecidable _) (@ite _ (0 ≤ w ∧ w ≤ 4) (Classical.propDecidable _)
  (if w = 4 then (mm_last S - mm_lag S a, S) else if w = 3 then (mm_early S a, S) else if w = 0 then (S 24 a, S) else if w = 1 then (S 25 a, S) else (S 26 a, S)) (mno (-9) S)) (mno (-3) S)
def js_X13_tick : jx_Sp := fun as g M Po => match as with
  | [(73, _, y), (0, _, a), (0, _, w)] => (mB (mY M y) ∧ (0 ≤ M y 27 ∧ M y 27 ≤ 60) ∧ (M y 27 ≠ 0 → mm_Rg (mY M y) (M y 27)) ∧ jx_r a ∧ jx_r w) ∧ mK y g M Po 0 (f_tick a w (mY M y)).1 (f_tick a w (mY M y)).2
  | _ => False
def cs_X13_tick : jx_Cs := [(477, 2, 0, 0, js_X13_isAct), (412, 3, 0, 0, js_X13_isIn), (372, 2, 0, 0, js_X13_no), (711, 2, 0, 0, js_X13_latestBegin), (531, 1, 0, 0, js_X13_gather), (591, 2, 0, 0, js_X13_rests)]
theorem hc_X13_tick {D : jx_D} {l : Launch} : jx_CsOK D l "LoopLaneModel" 4 cs_X13_tick := List.forall_mem_cons.mpr ⟨jc_X13_159 (jt_X13_isAct l) (fun as g M Po (h : js_X13_isAct as g M Po) => by unfold js_X13_isAct at h; split at h <;> first | exact h.elim | exact ⟨_, _, _, rfl, rfl⟩) (by decide), List.forall_mem_cons.mpr ⟨jc_X13_137 (jt_X13_isIn l) (fun as g M Po (h : js_X13_isIn as g M Po) => by unfold js_X13_isIn at h; split at h <;> first | exact h.elim | exact rfl) (by decide), List.forall_mem_cons.mpr ⟨jc_X13_124 (jt_X13_no l) (fun as g M Po (h : js_X13_no as g M Po) => by unfold js_X13_no at h; split at h <;> first | exact h.elim | exact ⟨_, _, _, rfl, rfl⟩) (by decide), List.forall_mem_cons.mpr ⟨jc_X13_237 (jt_X13_latestBegin l) (fun as g M Po (h : js_X13_latestBegin as g M Po) => by unfold js_X13_latestBegin at h; split at h <;> first | exact h.elim | exact ⟨_, _, _, rfl, rfl⟩) (by decide), List.forall_mem_cons.mpr ⟨jc_X13_177 (jt_X13_gather l) (fun as g M Po (h : js_X13_gather as g M Po) => by unfold js_X13_gather at h; split at h <;> first | exact h.elim | exact ⟨_, _, _, rfl, rfl⟩) (by decide), List.forall_mem_cons.mpr ⟨jc_X13_197 (jt_X13_rests l) (fun as g M Po (h : js_X13_rests as g M Po) => by unfold js_X13_rests at h; split at h <;> first | exact h.elim | exact ⟨_, _, _, rfl, rfl⟩) (by decide), fun _ h => absurd h List.not_mem_nil⟩⟩⟩⟩⟩⟩
set_option maxHeartbeats 4000000 in
theorem jt_X13_tick (l : Launch) : jx_Ct l yX13_tick (ws_ yX13_tick cX13_tick 4 (some .int)) 4 0 0 js_X13_tick := by
  refine jx_Ct_c (rc := 0) (by decide) rfl (fun D as g M Po hS => ?_)
  unfold js_X13_tick at hS
  split at hS
  · rename_i n1 y n2 a n3 w
    obtain ⟨⟨hB, h2, hR, r1, r2⟩, hK⟩ := hS
    unfold f_tick at hK
    simp only [mK_ite, mno] at hK
    simp only [mm_isa] at hK
    try simp only [mY_0] at hK
    try simp only [mY_j] at hK
    refine ⟨Nat.le_of_ble_eq_true rfl, ?_⟩
    have h9 := hB.1
    rw [mY_0] at h9
    refine jx_runL (o := jo_X13) (cs := cs_X13_tick) (hf := jx_nh) jo_X13_ok hc_X13_tick (jx_HK_nil rfl) (fun p => p == 48) 60 ?_
    simp only [jw, ju, jx_tg, Int.cast_ofNat_Int, Int.reduceAdd, Int.reduceToNat, Nat.reduceAdd, Nat.reduceMul, Nat.reduceBEq, Nat.reduceLeDiff, Int.reduceLE, Int.reduceLT, Int.reduceEq, Int.reduceNeg, Int.reduceSub, Int.reduceMul, not_false_eq_true, true_and, and_true, and_self, Bool.or_false, Bool.false_or, Bool.or_true, Bool.true_or, List.length_nil, List.length_cons, Nat.zero_le, or_true, true_or, Nat.le_refl, ↓reduceIte, Nat.reduceEqDiff, forall_const, false_and, and_false, false_implies, implies_true, not_true_eq_false, or_false, false_or, ne_eq, jd_X13_tick, jf_X13, js_X13_gather, js_X13_isAct, js_X13_isIn, js_X13_latestBegin, js_X13_no, js_X13_rests, cs_X13_tick, jx_ck_c]
    refine ⟨by omega, fun c0 => ⟨r1, by omega, fun c1 => ⟨r2, fun c2 => ?_, fun c2 => mK_no (((hK.2 c0).1 c1).2 c2)⟩, fun c1 => mK_no ((hK.2 c0).2 c1)⟩, fun c0 => mK_no (hK.1 (by omega))⟩
    have hE := ((hK.2 c0).1 c1).1 c2
    have hRb := hR c0
    by_cases c3 : w = 4
    · have hE1 := hE.1 c3
      refine jx_runL (o := jo_X13) (cs := cs_X13_tick) (hf := jx_nh) jo_X13_ok hc_X13_tick (jx_HK_nil rfl) (fun p => p == 59) 60 ?_
      simp only [jw, ju, jx_tg, Int.cast_ofNat_Int, Int.reduceAdd, Int.reduceToNat, Nat.reduceAdd, Nat.reduceMul, Nat.reduceBEq, Nat.reduceLeDiff, Int.reduceLE, Int.reduceLT, Int.reduceEq, Int.reduceNeg, Int.reduceSub, Int.reduceMul, not_false_eq_true, true_and, and_true, and_self, Bool.or_false, Bool.false_or, Bool.or_true, Bool.true_or, List.length_nil, List.length_cons, Nat.zero_le, or_true, true_or, Nat.le_refl, ↓reduceIte, Nat.reduceEqDiff, forall_const, false_and, and_false, false_implies, implies_true, not_true_eq_false, or_false, false_or, ne_eq, jd_X13_tick, jf_X13, js_X13_gather, js_X13_isAct, js_X13_isIn, js_X13_latestBegin, js_X13_no, js_X13_rests, cs_X13_tick, jx_ck_c]
      exact ⟨by omega, fun c => absurd c3 c, fun c => ⟨⟨hB, by omega, hRb, by omega⟩, fun M' i1 i2 => hE1 M' i1 i2⟩⟩
    · have hE1 := hE.2 c3
      refine jx_runL (o := jo_X13) (cs := cs_X13_tick) (hf := jx_nh) jo_X13_ok hc_X13_tick (jx_HK_nil rfl) (fun p => p == 59) 60 ?_
      simp only [jw, ju, jx_tg, Int.cast_ofNat_Int, Int.reduceAdd, Int.reduceToNat, Nat.reduceAdd, Nat.reduceMul, Nat.reduceBEq, Nat.reduceLeDiff, Int.reduceLE, Int.reduceLT, Int.reduceEq, Int.reduceNeg, Int.reduceSub, Int.reduceMul, not_false_eq_true, true_and, and_true, and_self, Bool.or_false, Bool.false_or, Bool.or_true, Bool.true_or, List.length_nil, List.length_cons, Nat.zero_le, or_true, true_or, Nat.le_refl, ↓reduceIte, Nat.reduceEqDiff, forall_const, false_and, and_false, false_implies, implies_true, not_true_eq_false, or_false, false_or, ne_eq, jd_X13_tick, jf_X13, js_X13_gather, js_X13_isAct, js_X13_isIn, js_X13_latestBegin, js_X13_no, js_X13_rests, cs_X13_tick, jx_ck_c]
      refine ⟨by omega, fun c => ?_, fun c => absurd c (by omega)⟩
      by_cases c4 : w = 3
      · have hE2 := hE1.1 c4
        refine jx_runL (o := jo_X13) (cs := cs_X13_tick) (hf := jx_nh) jo_X13_ok hc_X13_tick (jx_HK_nil rfl) (fun p => p == 68 || p == 84) 60 ?_
        simp only [jw, ju, jx_tg, Int.cast_ofNat_Int, Int.reduceAdd, Int.reduceToNat, Nat.reduceAdd, Nat.reduceMul, Nat.reduceBEq, Nat.reduceLeDiff, Int.reduceLE, Int.reduceLT, Int.reduceEq, Int.reduceNeg, Int.reduceSub, Int.reduceMul, not_false_eq_true, true_and, and_true, and_self, Bool.or_false, Bool.false_or, Bool.or_true, Bool.true_or, List.length_nil, List.length_cons, Nat.zero_le, or_true, true_or, Nat.le_refl, ↓reduceIte, Nat.reduceEqDiff, forall_const, false_and, and_false, false_implies, implies_true, not_true_eq_false, or_false, false_or, ne_eq, jd_X13_tick, jf_X13, js_X13_gather, js_X13_isAct, js_X13_isIn, js_X13_latestBegin, js_X13_no, js_X13_rests, cs_X13_tick, jx_ck_c]
        refine ⟨by omega, fun c => absurd c4 c, fun c => ⟨mB_W hB, fun M1 k1 => ?_⟩⟩
        have q1 := mEg_Q k1
        have z1 := mQ_Z q1
        have e9 : M1 y 9 = M y 9 := by have := z1.2.1; rw [mY_0, mY_0] at this; exact this
        have e27 : M1 y 27 = M y 27 := by have := mQ_0 q1 (k := 27) (by decide); rw [mY_0, mY_0] at this; exact this
        have ek := mEg_eok hB k1
        have hsol : ∀ f, mm_Sol (M y 9) (M1 y 20) (M1 (y + 15)) (M1 (y + 16)) (mm_wr y (M y 27) M1) f ↔ mm_SolE (M y 9) (me_all (mY M y)) (mm_wt (M y 27)) f := fun f => mm_sol_E (w := mm_wt (M y 27)) k1.2.1
        refine jx_runL (o := jo_X13) (cs := cs_X13_tick) (hf := jx_nh) jo_X13_ok hc_X13_tick (jx_HK_nil rfl) (fun _ => false) 60 ?_
        simp only [jw, ju, jx_tg, Int.cast_ofNat_Int, Int.reduceAdd, Int.reduceToNat, Nat.reduceAdd, Nat.reduceMul, Nat.reduceBEq, Nat.reduceLeDiff, Int.reduceLE, Int.reduceLT, Int.reduceEq, Int.reduceNeg, Int.reduceSub, Int.reduceMul, not_false_eq_true, true_and, and_true, and_self, Bool.or_false, Bool.false_or, Bool.or_true, Bool.true_or, List.length_nil, List.length_cons, Nat.zero_le, or_true, true_or, Nat.le_refl, ↓reduceIte, Nat.reduceEqDiff, forall_const, false_and, and_false, false_implies, implies_true, not_true_eq_false, or_false, false_or, ne_eq, jd_X13_tick, jf_X13, e27, js_X13_gather, js_X13_isAct, js_X13_isIn, js_X13_latestBegin, js_X13_no, js_X13_rests, cs_X13_tick, jx_ck_c]
        rw [e9]
        refine ⟨⟨by omega, by omega, ek.1⟩, fun r M2 j1 j2 => ⟨by omega, ?_⟩⟩
        rcases j1 with ⟨_, j1⟩ | ⟨_, j1⟩
        · have he := mm_early_eq (S := mY M y) (f := M2 (y + 28)) (by rw [mY_0, mY_0]; exact (mm_least_E (w := mm_wt (M y 27)) k1.2.1).mp j1) a c1.1 (by rw [mY_0]; exact c1.2)
          rw [he] at hE2
          exact hE2 M2 (mQ_tr q1 (mPf_Q j2)) (mFr_tr (mEg_Fr k1) (mPf_Fr j2))
        · obtain ⟨f, hf⟩ := hRb
          rw [mY_0] at hf
          exact absurd ⟨f, (hsol f).mpr hf⟩ j1
      · have hE2 := hE1.2 c4
        refine jx_runL (o := jo_X13) (cs := cs_X13_tick) (hf := jx_nh) jo_X13_ok hc_X13_tick (jx_HK_nil rfl) (fun p => p == 84) 60 ?_
        simp only [jw, ju, jx_tg, Int.cast_ofNat_Int, Int.reduceAdd, Int.reduceToNat, Nat.reduceAdd, Nat.reduceMul, Nat.reduceBEq, Nat.reduceLeDiff, Int.reduceLE, Int.reduceLT, Int.reduceEq, Int.reduceNeg, Int.reduceSub, Int.reduceMul, not_false_eq_true, true_and, and_true, and_self, Bool.or_false, Bool.false_or, Bool.or_true, Bool.true_or, List.length_nil, List.length_cons, Nat.zero_le, or_true, true_or, Nat.le_refl, ↓reduceIte, Nat.reduceEqDiff, forall_const, false_and, and_false, false_implies, implies_true, not_true_eq_false, or_false, false_or, ne_eq, jd_X13_tick, jf_X13, js_X13_gather, js_X13_isAct, js_X13_isIn, js_X13_latestBegin, js_X13_no, js_X13_rests, cs_X13_tick, jx_ck_c]
        refine ⟨by omega, fun c => ?_, fun c => absurd c (by omega)⟩
        refine jx_runL (o := jo_X13) (cs := cs_X13_tick) (hf := jx_nh) jo_X13_ok hc_X13_tick (jx_HK_nil rfl) (fun _ => false) 60 ?_
        simp only [jw, ju, jx_tg, Int.cast_ofNat_Int, Int.reduceAdd, Int.reduceToNat, Nat.reduceAdd, Nat.reduceMul, Nat.reduceBEq, Nat.reduceLeDiff, Int.reduceLE, Int.reduceLT, Int.reduceEq, Int.reduceNeg, Int.reduceSub, Int.reduceMul, not_false_eq_true, true_and, and_true, and_self, Bool.or_false, Bool.false_or, Bool.or_true, Bool.true_or, List.length_nil, List.length_cons, Nat.zero_le, or_true, true_or, Nat.le_refl, ↓reduceIte, Nat.reduceEqDiff, forall_const, false_and, and_false, false_implies, implies_true, not_true_eq_false, or_false, false_or, ne_eq, jd_X13_tick, jf_X13, js_X13_gather, js_X13_isAct, js_X13_isIn, js_X13_latestBegin, js_X13_no, js_X13_rests, cs_X13_tick, jx_ck_c]
        exact ⟨by omega, fun c5 => ⟨by omega, fun c6 => ⟨by omega, mK_s ((hE2.2 c5).2 c6)⟩, fun c6 => ⟨by omega, mK_s ((hE2.2 c5).1 (by omega))⟩⟩, fun c5 => ⟨by omega, mK_s (hE2.1 (by omega))⟩⟩
  · exact hS.elim
