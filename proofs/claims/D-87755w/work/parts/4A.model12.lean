/-! the reference, 12: laying, plain -/
set_option maxRecDepth 100000
def mm_max (f : Int → Int) : Nat → Int
  | 0 => 0
  | k + 1 => max (mm_max f k) (f k)
theorem mm_max_r (f : Int → Int) (B : Int) (hB : 0 ≤ B) : ∀ k : Nat, (∀ v : Int, 0 ≤ v → v < k → f v ≤ B) → 0 ≤ mm_max f k ∧ mm_max f k ≤ B
  | 0, _ => ⟨Int.le_refl _, hB⟩
  | k + 1, h => by
    have ih := mm_max_r f B hB k (fun v a b => h v a (by omega))
    have := h k (by omega) (by omega)
    unfold mm_max
    omega
noncomputable def f_laying (w : Int) (S : jx_M) : mR := if S 0 27 = 0 then mno (-2) S else @ite _ (0 ≤ w ∧ w ≤ 2) (Classical.propDecidable _)
  (if w = 0 then (S 0 27, S) else if w = 1 then (mm_max (S 25) (S 0 9).toNat + 1, S) else (mm_max (fun a => S 26 a + S 2 a) (S 0 9).toNat, S)) (mno (-9) S)
/-- numbers of a laying -/
def mm_lnum (S : jx_M) : Prop := ∀ a, 0 ≤ a → a < S 0 9 → (0 ≤ S 25 a ∧ S 25 a ≤ 1000) ∧ (0 ≤ S 26 a ∧ S 26 a ≤ 100000) ∧ (1 ≤ S 2 a ∧ S 2 a ≤ 12)
/-- the same, to the last place -/
def xK (y : Int) (g : jx_S) (M : jx_M) (Po : jx_Po) (t : Nat) : Int → jx_M → Prop := fun r S' => ∀ M', mY M' y = S' → mFr y M M' → Po (t, 0, r) g M'
theorem mY_ext {M M' : jx_M} {y : Int} (h : mY M' y = mY M y) (f : mFr y M M') : M' = M := by
  funext z i
  by_cases q : z < y ∨ y + 33 ≤ z
  · exact f z i q
  · have := congrFun (congrFun h (z - y)) i
    unfold mY at this
    rw [show y + (z - y) = z by omega] at this
    exact this
theorem xK_ite {p : Prop} [Decidable p] {y : Int} {g : jx_S} {M : jx_M} {Po : jx_Po} {t : Nat} {a b : mR} : xK y g M Po t (if p then a else b).1 (if p then a else b).2 ↔ (p → xK y g M Po t a.1 a.2) ∧ (¬ p → xK y g M Po t b.1 b.2) := mm_ite
theorem xK_no {y r w : Int} {g : jx_S} {M : jx_M} {Po : jx_Po} {t : Nat} (h : xK y g M Po t r (mu_no (mY M y) 0 w)) : Po (t, 0, r) g (mu_no M y w) := h _ mY_no (mFr_no mFr_rf)
theorem xK_s {y r : Int} {g : jx_S} {M : jx_M} {Po : jx_Po} {t : Nat} (h : xK y g M Po t r (mY M y)) : Po (t, 0, r) g M := h _ rfl mFr_rf
theorem xK_mK {y r : Int} {g : jx_S} {M S' : jx_M} {Po : jx_Po} {t : Nat} (h : mK y g M Po t r S') : xK y g M Po t r S' := fun M' a b => h M' (mQ_eq a) b
def js_X13_laying : jx_Sp := fun as g M Po => match as with
  | [(73, _, y), (0, _, w)] => ((0 ≤ M y 9 ∧ M y 9 ≤ 16) ∧ (0 ≤ M y 27 ∧ M y 27 ≤ 60) ∧ jx_r w ∧ (M y 27 ≠ 0 → mm_lnum (mY M y))) ∧ ∀ M', mY M' y = (f_laying w (mY M y)).2 → mFr y M M' → Po (0, 0, (f_laying w (mY M y)).1) g M'
  | _ => False
def cs_X13_laying : jx_Cs := [(412, 3, 0, 0, js_X13_isIn), (372, 2, 0, 0, js_X13_no)]
theorem hc_X13_laying {D : jx_D} {l : Launch} : jx_CsOK D l "LoopLaneModel" 3 cs_X13_laying := List.forall_mem_cons.mpr ⟨jc_X13_137 (jt_X13_isIn l) (fun as g M Po (h : js_X13_isIn as g M Po) => by unfold js_X13_isIn at h; split at h <;> first | exact h.elim | exact rfl) (by decide), List.forall_mem_cons.mpr ⟨jc_X13_124 (jt_X13_no l) (fun as g M Po (h : js_X13_no as g M Po) => by unfold js_X13_no at h; split at h <;> first | exact h.elim | exact ⟨_, _, _, rfl, rfl⟩) (by decide), fun _ h => absurd h List.not_mem_nil⟩⟩
set_option maxHeartbeats 4000000 in
theorem jt_X13_laying (l : Launch) : jx_Ct l yX13_laying (ws_ yX13_laying cX13_laying 5 (some .int)) 3 0 0 js_X13_laying := by
  refine jx_Ct_c (rc := 0) (by decide) rfl (fun D as g M Po hS => ?_)
  unfold js_X13_laying at hS
  split at hS
  · rename_i n1 y n2 w
    obtain ⟨⟨h1, h2, r1, h3⟩, hK⟩ := hS
    have hK : xK y g M Po 0 (f_laying w (mY M y)).1 (f_laying w (mY M y)).2 := hK
    unfold f_laying at hK
    simp only [xK_ite, mno] at hK
    simp only [mY_0] at hK
    refine ⟨Nat.le_of_ble_eq_true rfl, ?_⟩
    have loop : ∀ (f k : Nat), (k : Int) + f = M y 9 → M y 27 ≠ 0 → 0 ≤ w ∧ w ≤ 2 → jx_V D l (yX13_laying.cls, cX13_laying, 5, 0, [], 3, 0, 0, yX13_laying.name) Po 40 [(73, n1, y), (0, n2, w), (0, 0, mm_max (mY M y 25) k), (0, 0, mm_max (fun a => mY M y 26 a + mY M y 2 a) k), (0, 0, (k : Int))] [] (0, 0) g (M) := by
      intro f
      induction f with
      | zero =>
        intro k hk c0 c1
        have hk2 := (hK.2 c0).1 c1
        rw [show (M y 9).toNat = k by omega] at hk2
        refine jx_runL (o := jo_X13) (cs := cs_X13_laying) (hf := jx_nh) jo_X13_ok hc_X13_laying (jx_HK_nil rfl) (fun p => p == 40) 60 ?_
        simp only [jw, ju, jx_tg, Int.cast_ofNat_Int, Int.reduceAdd, Int.reduceToNat, Nat.reduceAdd, Nat.reduceMul, Nat.reduceBEq, Nat.reduceLeDiff, Int.reduceLE, Int.reduceLT, Int.reduceEq, Int.reduceNeg, Int.reduceSub, Int.reduceMul, not_false_eq_true, true_and, and_true, and_self, Bool.or_false, Bool.false_or, Bool.or_true, Bool.true_or, List.length_nil, List.length_cons, Nat.zero_le, or_true, true_or, Nat.le_refl, ↓reduceIte, Nat.reduceEqDiff, forall_const, false_and, and_false, false_implies, implies_true, not_true_eq_false, or_false, false_or, ne_eq, jd_X13_laying, jf_X13, js_X13_isIn, js_X13_no, cs_X13_laying, jx_ck_c]
        exact ⟨by omega, fun c => ⟨by omega, fun c2 => ⟨by omega, fun c3 => xK_s ((hk2.2 c2).2 c3), fun c3 => xK_s ((hk2.2 c2).1 (by omega))⟩, fun c2 => xK_s (hk2.1 (by omega))⟩, fun c => by omega⟩
      | succ f ih =>
        intro k hk c0 c1
        have q := h3 c0 k (by omega) (by rw [mY_0]; omega)
        simp only [mY_j] at q
        have m1 := mm_max_r (mY M y 25) 1000 (by omega) k (fun v a b => (h3 c0 v a (by rw [mY_0]; omega)).1.2)
        have m2 := mm_max_r (fun a => mY M y 26 a + mY M y 2 a) 100012 (by omega) k (fun v a b => by have := h3 c0 v a (by rw [mY_0]; omega); omega)
        have ihk := ih (k + 1) (by omega) c0 c1
        have e1 : mm_max (mY M y 25) (k + 1) = max (mm_max (mY M y 25) k) (M (y + 25) k) := rfl
        have e2 : mm_max (fun a => mY M y 26 a + mY M y 2 a) (k + 1) = max (mm_max (fun a => mY M y 26 a + mY M y 2 a) k) (M (y + 26) k + M (y + 2) k) := rfl
        rw [e1, e2] at ihk
        refine jx_runL (o := jo_X13) (cs := cs_X13_laying) (hf := jx_nh) jo_X13_ok hc_X13_laying (jx_HK_nil rfl) (fun p => p == 40 || p == 68) 60 ?_
        simp only [jw, ju, jx_tg, Int.cast_ofNat_Int, Int.reduceAdd, Int.reduceToNat, Nat.reduceAdd, Nat.reduceMul, Nat.reduceBEq, Nat.reduceLeDiff, Int.reduceLE, Int.reduceLT, Int.reduceEq, Int.reduceNeg, Int.reduceSub, Int.reduceMul, not_false_eq_true, true_and, and_true, and_self, Bool.or_false, Bool.false_or, Bool.or_true, Bool.true_or, List.length_nil, List.length_cons, Nat.zero_le, or_true, true_or, Nat.le_refl, ↓reduceIte, Nat.reduceEqDiff, forall_const, false_and, and_false, false_implies, implies_true, not_true_eq_false, or_false, false_or, ne_eq, jd_X13_laying, jf_X13, js_X13_isIn, js_X13_no, cs_X13_laying, jx_ck_c]
        have at68 : ∀ A : Int, A = max (mm_max (mY M y 25) k) (M (y + 25) k) → jx_V D l (yX13_laying.cls, cX13_laying, 5, 0, [], 3, 0, 0, yX13_laying.name) Po 68 [(73, n1, y), (0, n2, w), (0, 0, A), (0, 0, mm_max (fun a => mY M y 26 a + mY M y 2 a) k), (0, 0, (k : Int))] [] (0, 0) g (M) := by
          intro A hA
          subst hA
          refine jx_runL (o := jo_X13) (cs := cs_X13_laying) (hf := jx_nh) jo_X13_ok hc_X13_laying (jx_HK_nil rfl) (fun p => p == 40) 60 ?_
          simp only [jw, ju, jx_tg, Int.cast_ofNat_Int, Int.reduceAdd, Int.reduceToNat, Nat.reduceAdd, Nat.reduceMul, Nat.reduceBEq, Nat.reduceLeDiff, Int.reduceLE, Int.reduceLT, Int.reduceEq, Int.reduceNeg, Int.reduceSub, Int.reduceMul, not_false_eq_true, true_and, and_true, and_self, Bool.or_false, Bool.false_or, Bool.or_true, Bool.true_or, List.length_nil, List.length_cons, Nat.zero_le, or_true, true_or, Nat.le_refl, ↓reduceIte, Nat.reduceEqDiff, forall_const, false_and, and_false, false_implies, implies_true, not_true_eq_false, or_false, false_or, ne_eq, jd_X13_laying, jf_X13, js_X13_isIn, js_X13_no, cs_X13_laying, jx_ck_c]
          refine ⟨by omega, by omega, by omega, fun c => ?_, fun c => ⟨by omega, by omega, ?_⟩⟩
          · rw [show max (mm_max (fun a => mY M y 26 a + mY M y 2 a) k) (M (y + 26) k + M (y + 2) k) = mm_max (fun a => mY M y 26 a + mY M y 2 a) k by omega] at ihk
            exact ihk
          · rw [show max (mm_max (fun a => mY M y 26 a + mY M y 2 a) k) (M (y + 26) k + M (y + 2) k) = M (y + 26) k + M (y + 2) k by omega] at ihk
            exact ihk
        refine ⟨by omega, fun c => by omega, fun c => ⟨by omega, by omega, fun c2 => at68 _ (by omega), fun c2 => ⟨by omega, at68 _ (by omega)⟩⟩⟩
    refine jx_runL (o := jo_X13) (cs := cs_X13_laying) (hf := jx_nh) jo_X13_ok hc_X13_laying (jx_HK_nil rfl) (fun p => p == 40) 60 ?_
    simp only [jw, ju, jx_tg, Int.cast_ofNat_Int, Int.reduceAdd, Int.reduceToNat, Nat.reduceAdd, Nat.reduceMul, Nat.reduceBEq, Nat.reduceLeDiff, Int.reduceLE, Int.reduceLT, Int.reduceEq, Int.reduceNeg, Int.reduceSub, Int.reduceMul, not_false_eq_true, true_and, and_true, and_self, Bool.or_false, Bool.false_or, Bool.or_true, Bool.true_or, List.length_nil, List.length_cons, Nat.zero_le, or_true, true_or, Nat.le_refl, ↓reduceIte, Nat.reduceEqDiff, forall_const, false_and, and_false, false_implies, implies_true, not_true_eq_false, or_false, false_or, ne_eq, jd_X13_laying, jf_X13, js_X13_isIn, js_X13_no, cs_X13_laying, jx_ck_c]
    exact ⟨by omega, fun c => ⟨r1, fun c1 => loop (M y 9).toNat 0 (by omega) c c1, fun c1 => xK_no ((hK.2 c).2 c1)⟩, fun c => xK_no (hK.1 (by omega))⟩
  · exact hS.elim
def jp_X13_laying : jx_Sp := fun as g M Po => match as with
  | [(73, _, y), (0, _, w)] => ((0 ≤ M y 9 ∧ M y 9 ≤ 16) ∧ (0 ≤ M y 27 ∧ M y 27 ≤ 60) ∧ jx_r w ∧ (M y 27 ≠ 0 → mm_lnum (mY M y))) ∧ mK y g M Po 0 (f_laying w (mY M y)).1 (f_laying w (mY M y)).2
  | _ => False
set_option maxHeartbeats 4000000 in
theorem jq_X13_laying (l : Launch) : jx_Ct l yX13_laying (ws_ yX13_laying cX13_laying 5 (some .int)) 3 0 0 jp_X13_laying := by
  refine jx_Ct_mono (jt_X13_laying l) (fun as g M Po h => ?_)
  unfold jp_X13_laying at h
  split at h
  rotate_left
  · exact h.elim
  · unfold js_X13_laying
    exact ⟨h.1, xK_mK h.2⟩
/-! runs leave the body as it is -/
def mm_same (S S' : jx_M) : Prop := (∀ j k : Int, 1 ≤ j → j ≤ 31 → j ≠ 19 → S' j k = S j k) ∧ ∀ k : Int, k < 38 → S' 0 k = S 0 k
theorem mm_same_rf {S : jx_M} : mm_same S S := ⟨fun _ _ _ _ _ => rfl, fun _ _ => rfl⟩
theorem mm_same_tr {S S' S'' : jx_M} (h : mm_same S S') (h' : mm_same S' S'') : mm_same S S'' := ⟨fun j k a b c => (h'.1 j k a b c).trans (h.1 j k a b c), fun k a => (h'.2 k a).trans (h.2 k a)⟩
theorem mm_same_0 {S S' : jx_M} {k v : Int} (h : mm_same S S') (hk : 38 ≤ k) : mm_same S (jx_u S' 0 k v) :=
  ⟨fun j i a b c => by rw [jx_u_a _ _ _ _ _ _ (by omega)]; exact h.1 j i a b c, fun i a => by rw [jx_u_j _ _ _ _ _ _ (by omega)]; exact h.2 i a⟩
theorem mm_same_j {S S' : jx_M} {j k v : Int} (h : mm_same S S') (hj : j = 19 ∨ j = 32) : mm_same S (jx_u S' j k v) :=
  ⟨fun i q a b c => by rw [jx_u_a _ _ _ _ _ _ (by omega)]; exact h.1 i q a b c, fun i a => by rw [jx_u_a _ _ _ _ _ _ (by omega)]; exact h.2 i a⟩
theorem mm_same_does {S S' : jx_M} {a t : Int} (h : mm_same S S') : mm_same S (mm_does S' a t).2 := by
  unfold mm_does
  split
  · show mm_same S (mm_dput S' a t)
    unfold mm_dput
    refine mm_same_j ?_ (Or.inr rfl)
    split
    · exact mm_same_j h (Or.inl rfl)
    · exact h
  · exact h
theorem mm_act_same {S S' : jx_M} {a : Int} (h : mm_same S S') (ha : mm_act S a) : mm_act S' a := by
  unfold mm_act mm_ok1 at *
  simp only [h.1 _ _ (show (1 : Int) ≤ 1 by decide) (by decide) (by decide), h.1 _ _ (show (1 : Int) ≤ 5 by decide) (by decide) (by decide), h.1 _ _ (show (1 : Int) ≤ 6 by decide) (by decide) (by decide), h.1 _ _ (show (1 : Int) ≤ 7 by decide) (by decide) (by decide)]
  exact ha
theorem mm_rows_same {S S' : jx_M} (h : mm_same S S') (hr : mm_rows S) : mm_rows S' := by
  unfold mm_rows at *
  intro s a b
  rw [h.1 _ _ (show (1 : Int) ≤ 21 by decide) (by decide) (by decide), h.1 _ _ (show (1 : Int) ≤ 22 by decide) (by decide) (by decide)]
  exact hr s a b
theorem mm_does_r {S : jx_M} {a t : Int} : -8 ≤ (mm_does S a t).1 ∧ (mm_does S a t).1 ≤ 0 := by
  have hw : -8 ≤ mm_dwhy S a t ∧ mm_dwhy S a t ≤ 0 := by
    unfold mm_dwhy
    split
    · split <;> omega
    · split
      · have := @mm_why_r S (S 5 a) (mm_x S a t)
        omega
      · omega
  unfold mm_does
  split
  · show -8 ≤ (0 : Int) ∧ (0 : Int) ≤ 0
    omega
  · exact hw
/-- a plain run, act by act -/
noncomputable def mp_go (n : Int) : Nat → Int → Int → jx_M → jx_M
  | 0, _, _, S => S
  | f + 1, t, a, S => if n ≤ t then S else if S 0 9 ≤ a then mp_go n f (t + 1) 0 (jx_u S 0 44 (t + 1)) else
    if (mm_does (jx_u (jx_u S 0 41 (S 0 41 + 1)) 0 42 (S 0 42 + S 2 a)) a t).1 = 0 then mp_go n f t (a + 1) (jx_u (mm_does (jx_u (jx_u S 0 41 (S 0 41 + 1)) 0 42 (S 0 42 + S 2 a)) a t).2 0 38 0)
    else jx_u (jx_u (jx_u (mm_does (jx_u (jx_u S 0 41 (S 0 41 + 1)) 0 42 (S 0 42 + S 2 a)) a t).2 0 38 (mm_does (jx_u (jx_u S 0 41 (S 0 41 + 1)) 0 42 (S 0 42 + S 2 a)) a t).1) 0 39 a) 0 40 t
def js_X13_plain : jx_Sp := fun as g M Po => match as with
  | [(73, _, y), (0, _, n)] => ((0 ≤ M y 9 ∧ M y 9 ≤ 16) ∧ (0 ≤ n ∧ n ≤ 200) ∧ (∀ a, 0 ≤ a → a < M y 9 → mm_act (mY M y) a) ∧ mm_rows (mY M y)) ∧ ∀ M', mY M' y = mp_go n 4000 0 0 (mY M y) → mFr y M M' → Po (3, 0, 0) g M'
  | _ => False
def cs_X13_plain : jx_Cs := [(849, 3, 0, 0, js_X13_does)]
theorem hc_X13_plain {D : jx_D} {l : Launch} : jx_CsOK D l "LoopLaneModel" 3 cs_X13_plain := List.forall_mem_cons.mpr ⟨jc_X13_283 (jt_X13_does l) (fun as g M Po (h : js_X13_does as g M Po) => by unfold js_X13_does at h; split at h <;> first | exact h.elim | exact ⟨_, _, _, rfl, rfl⟩) (by decide), fun _ h => absurd h List.not_mem_nil⟩
set_option maxHeartbeats 4000000 in
theorem jt_X13_plain (l : Launch) : jx_Ct l yX13_plain (ws_ yX13_plain cX13_plain 4 none) 3 0 0 js_X13_plain := by
  refine jx_Ct_c (rc := 3) (by decide) rfl (fun D as g M Po hS => ?_)
  unfold js_X13_plain at hS
  split at hS
  · rename_i n1 y n2 n
    obtain ⟨⟨h1, h2, h3, h4⟩, hP⟩ := hS
    refine ⟨Nat.le_of_ble_eq_true rfl, ?_⟩
    have loop : ∀ (f : Nat) (t a : Int) (M' : jx_M), 17 * (n - t) + (16 - a) < f → (0 ≤ t ∧ t < n) → (0 ≤ a ∧ a ≤ M y 9) → mm_same (mY M y) (mY M' y) → mFr y M M' → (∀ M'', mY M'' y = mp_go n f t a (mY M' y) → mFr y M M'' → Po (3, 0, 0) g M'') → jx_V D l (yX13_plain.cls, cX13_plain, 4, 3, [], 3, 0, 0, yX13_plain.name) Po 9 [(73, n1, y), (0, n2, n), (0, 0, t), (0, 0, a)] [] (0, 0) g (M') := by
      intro f
      induction f with
      | zero => intro t a M' hf; omega
      | succ f ih =>
        intro t a M' hf ht ha hs hr hE
        have e9 : M' y 9 = M y 9 := by
          have := hs.2 9 (by omega)
          rw [mY_0, mY_0] at this
          exact this
        unfold mp_go at hE
        rw [if_neg (by omega)] at hE
        by_cases hc : M y 9 ≤ a
        · rw [if_pos (show mY M' y 0 9 ≤ a by rw [mY_0, e9]; exact hc)] at hE
          refine jx_runL (o := jo_X13) (cs := cs_X13_plain) (hf := jx_nh) jo_X13_ok hc_X13_plain (jx_HK_nil rfl) (fun p => p == 2 || p == 9) 60 ?_
          simp only [jw, ju, jx_tg, Int.cast_ofNat_Int, Int.reduceAdd, Int.reduceToNat, Nat.reduceAdd, Nat.reduceMul, Nat.reduceBEq, Nat.reduceLeDiff, Int.reduceLE, Int.reduceLT, Int.reduceEq, Int.reduceNeg, Int.reduceSub, Int.reduceMul, not_false_eq_true, true_and, and_true, and_self, Bool.or_false, Bool.false_or, Bool.or_true, Bool.true_or, List.length_nil, List.length_cons, Nat.zero_le, or_true, true_or, Nat.le_refl, ↓reduceIte, Nat.reduceEqDiff, forall_const, false_and, and_false, false_implies, implies_true, not_true_eq_false, or_false, false_or, ne_eq, jd_X13_plain, jf_X13, js_X13_does, cs_X13_plain, jx_ck_c]
          refine ⟨by omega, fun c => ?_, fun c => by omega⟩
          have hs2 : mm_same (mY M y) (mY (jx_u M' y 44 (t + 1)) y) := by rw [mY_u0]; exact mm_same_0 hs (by omega)
          have e2 : mY (jx_u M' y 44 (t + 1)) y = jx_u (mY M' y) 0 44 (t + 1) := mY_u0 _ _ _ _
          by_cases ht2 : t + 1 < n
          · refine jx_runL (o := jo_X13) (cs := cs_X13_plain) (hf := jx_nh) jo_X13_ok hc_X13_plain (jx_HK_nil rfl) (fun p => p == 9) 60 ?_
            simp only [jw, ju, jx_tg, Int.cast_ofNat_Int, Int.reduceAdd, Int.reduceToNat, Nat.reduceAdd, Nat.reduceMul, Nat.reduceBEq, Nat.reduceLeDiff, Int.reduceLE, Int.reduceLT, Int.reduceEq, Int.reduceNeg, Int.reduceSub, Int.reduceMul, not_false_eq_true, true_and, and_true, and_self, Bool.or_false, Bool.false_or, Bool.or_true, Bool.true_or, List.length_nil, List.length_cons, Nat.zero_le, or_true, true_or, Nat.le_refl, ↓reduceIte, Nat.reduceEqDiff, forall_const, false_and, and_false, false_implies, implies_true, not_true_eq_false, or_false, false_or, ne_eq, jd_X13_plain, jf_X13, js_X13_does, cs_X13_plain, jx_ck_c]
            refine ⟨by omega, fun c => by omega, fun c => ih (t + 1) 0 _ (by omega) (by omega) (by omega) hs2 (mFr_u0 hr) (fun M'' k1 k2 => hE M'' ?_ k2)⟩
            rw [k1, e2]
          · refine jx_runL (o := jo_X13) (cs := cs_X13_plain) (hf := jx_nh) jo_X13_ok hc_X13_plain (jx_HK_nil rfl) (fun _ => false) 60 ?_
            simp only [jw, ju, jx_tg, Int.cast_ofNat_Int, Int.reduceAdd, Int.reduceToNat, Nat.reduceAdd, Nat.reduceMul, Nat.reduceBEq, Nat.reduceLeDiff, Int.reduceLE, Int.reduceLT, Int.reduceEq, Int.reduceNeg, Int.reduceSub, Int.reduceMul, not_false_eq_true, true_and, and_true, and_self, Bool.or_false, Bool.false_or, Bool.or_true, Bool.true_or, List.length_nil, List.length_cons, Nat.zero_le, or_true, true_or, Nat.le_refl, ↓reduceIte, Nat.reduceEqDiff, forall_const, false_and, and_false, false_implies, implies_true, not_true_eq_false, or_false, false_or, ne_eq, jd_X13_plain, jf_X13, js_X13_does, cs_X13_plain, jx_ck_c]
            refine ⟨by omega, fun c => hE _ ?_ (mFr_u0 hr), fun c => by omega⟩
            rw [e2]
            match f with
            | 0 => rfl
            | f + 1 => unfold mp_go; rw [if_pos (by omega)]
        · rw [if_neg (show ¬ mY M' y 0 9 ≤ a by rw [mY_0, e9]; exact hc)] at hE
          have e1 : mY (jx_u (jx_u M' y 41 (M' y 41 + 1)) y 42 (M' y 42 + M' (y + 2) a)) y = jx_u (jx_u (mY M' y) 0 41 (mY M' y 0 41 + 1)) 0 42 (mY M' y 0 42 + mY M' y 2 a) := by
            rw [mY_u0, mY_u0, mY_0, mY_0]
            rfl
          have hs1 : mm_same (mY M y) (mY (jx_u (jx_u M' y 41 (M' y 41 + 1)) y 42 (M' y 42 + M' (y + 2) a)) y) := by
            rw [e1]
            exact mm_same_0 (mm_same_0 hs (by omega)) (by omega)
          rw [← e1] at hE
          have hdr := @mm_does_r (mY (jx_u (jx_u M' y 41 (M' y 41 + 1)) y 42 (M' y 42 + M' (y + 2) a)) y) a t
          have hsd := mm_same_does (a := a) (t := t) hs1
          refine jx_runL (o := jo_X13) (cs := cs_X13_plain) (hf := jx_nh) jo_X13_ok hc_X13_plain (jx_HK_nil rfl) (fun p => p == 2 || p == 9) 60 ?_
          simp only [jw, ju, jx_tg, Int.cast_ofNat_Int, Int.reduceAdd, Int.reduceToNat, Nat.reduceAdd, Nat.reduceMul, Nat.reduceBEq, Nat.reduceLeDiff, Int.reduceLE, Int.reduceLT, Int.reduceEq, Int.reduceNeg, Int.reduceSub, Int.reduceMul, not_false_eq_true, true_and, and_true, and_self, Bool.or_false, Bool.false_or, Bool.or_true, Bool.true_or, List.length_nil, List.length_cons, Nat.zero_le, or_true, true_or, Nat.le_refl, ↓reduceIte, Nat.reduceEqDiff, forall_const, false_and, and_false, false_implies, implies_true, not_true_eq_false, or_false, false_or, ne_eq, jd_X13_plain, jf_X13, e9, js_X13_does, cs_X13_plain, jx_ck_c]
          refine ⟨by omega, fun c => by omega, fun c => ⟨by omega, ⟨by omega, by omega, mm_act_same hs1 (h3 a ha.1 (by omega)), mm_rows_same hs1 h4⟩, fun M2 k1 k2 => ⟨by omega, fun c2 => ?_, fun c2 => ?_⟩⟩⟩
          · rw [if_neg c2] at hE
            refine hE _ ?_ (mFr_u0 (mFr_u0 (mFr_u0 (mFr_tr (mFr_u0 (mFr_u0 hr)) k2))))
            rw [mY_u0, mY_u0, mY_u0, k1]
          · have c2 : (mm_does (mY (jx_u (jx_u M' y 41 (M' y 41 + 1)) y 42 (M' y 42 + M' (y + 2) a)) y) a t).1 = 0 := by omega
            rw [if_pos c2] at hE
            rw [c2]
            refine ih t (a + 1) _ (by omega) ht (by omega) ?_ (mFr_u0 (mFr_tr (mFr_u0 (mFr_u0 hr)) k2)) (fun M'' k3 k4 => hE M'' ?_ k4)
            · rw [mY_u0, k1]
              exact mm_same_0 hsd (by omega)
            · rw [k3, mY_u0, k1]
    by_cases hn : 0 < n
    · refine jx_runL (o := jo_X13) (cs := cs_X13_plain) (hf := jx_nh) jo_X13_ok hc_X13_plain (jx_HK_nil rfl) (fun p => p == 9) 60 ?_
      simp only [jw, ju, jx_tg, Int.cast_ofNat_Int, Int.reduceAdd, Int.reduceToNat, Nat.reduceAdd, Nat.reduceMul, Nat.reduceBEq, Nat.reduceLeDiff, Int.reduceLE, Int.reduceLT, Int.reduceEq, Int.reduceNeg, Int.reduceSub, Int.reduceMul, not_false_eq_true, true_and, and_true, and_self, Bool.or_false, Bool.false_or, Bool.or_true, Bool.true_or, List.length_nil, List.length_cons, Nat.zero_le, or_true, true_or, Nat.le_refl, ↓reduceIte, Nat.reduceEqDiff, forall_const, false_and, and_false, false_implies, implies_true, not_true_eq_false, or_false, false_or, ne_eq, jd_X13_plain, jf_X13, js_X13_does, cs_X13_plain, jx_ck_c]
      exact ⟨by omega, fun c => by omega, fun c => loop 4000 0 0 M (by omega) (by omega) (by omega) mm_same_rf mFr_rf hP⟩
    · refine jx_runL (o := jo_X13) (cs := cs_X13_plain) (hf := jx_nh) jo_X13_ok hc_X13_plain (jx_HK_nil rfl) (fun p => p == 9) 60 ?_
      simp only [jw, ju, jx_tg, Int.cast_ofNat_Int, Int.reduceAdd, Int.reduceToNat, Nat.reduceAdd, Nat.reduceMul, Nat.reduceBEq, Nat.reduceLeDiff, Int.reduceLE, Int.reduceLT, Int.reduceEq, Int.reduceNeg, Int.reduceSub, Int.reduceMul, not_false_eq_true, true_and, and_true, and_self, Bool.or_false, Bool.false_or, Bool.or_true, Bool.true_or, List.length_nil, List.length_cons, Nat.zero_le, or_true, true_or, Nat.le_refl, ↓reduceIte, Nat.reduceEqDiff, forall_const, false_and, and_false, false_implies, implies_true, not_true_eq_false, or_false, false_or, ne_eq, jd_X13_plain, jf_X13, js_X13_does, cs_X13_plain, jx_ck_c]
      refine ⟨by omega, fun c => hP _ ?_ mFr_rf, fun c => by omega⟩
      unfold mp_go
      rw [if_pos (by omega)]
  · exact hS.elim
