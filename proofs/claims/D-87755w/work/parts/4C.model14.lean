/-! the reference, 14: filled, places, fewest -/
set_option maxRecDepth 100000
/-- how many units an act fills at a tick: the first k bits -/
def mm_f8 (p tk bt tick : Int) : Nat → Int
  | 0 => 0
  | i + 1 => mm_f8 p tk bt tick i + (if (tk + i) % bt = tick then mm_bit p i else 0)
theorem mm_f8_r (p tk bt tick : Int) : ∀ k : Nat, 0 ≤ mm_f8 p tk bt tick k ∧ mm_f8 p tk bt tick k ≤ k
  | 0 => ⟨Int.le_refl _, Int.le_refl _⟩
  | i + 1 => by
    have ih := mm_f8_r p tk bt tick i
    have hb := mm_bit_01 p i
    unfold mm_f8
    split <;> omega
def mm_fa (S : jx_M) (A : Int → Int) (kind tick a : Int) : Int := if S 3 a = kind then mm_f8 (S 4 a) (A a) (S 0 27) tick 8 else 0
def mm_fill (S : jx_M) (A : Int → Int) (kind tick : Int) : Int := mm_sum (mm_fa S A kind tick) (S 0 9).toNat
theorem mm_sum_r (f : Int → Int) (B : Int) (hB : 0 ≤ B) : ∀ k : Nat, (∀ v : Int, 0 ≤ v → v < k → 0 ≤ f v ∧ f v ≤ B) → 0 ≤ mm_sum f k ∧ mm_sum f k ≤ B * k
  | 0, _ => by
    unfold mm_sum
    omega
  | k + 1, h => by
    have ih := mm_sum_r f B hB k (fun v a b => h v a (by omega))
    have := h k (by omega) (by omega)
    have e : B * ((k + 1 : Nat) : Int) = B * k + B := by rw [Int.natCast_add, Int.mul_add]; omega
    unfold mm_sum
    rw [e]
    omega
theorem mm_fa_r {S : jx_M} {A : Int → Int} {kind tick a : Int} : 0 ≤ mm_fa S A kind tick a ∧ mm_fa S A kind tick a ≤ 8 := by
  unfold mm_fa
  split
  · have := mm_f8_r (S 4 a) (A a) (S 0 27) tick 8
    omega
  · omega
/-- units and patterns of the acts -/
def mm_up (S : jx_M) : Prop := ∀ a, 0 ≤ a → a < S 0 9 → (0 ≤ S 3 a ∧ S 3 a ≤ 5) ∧ (1 ≤ S 4 a ∧ S 4 a ≤ 255)
def js_X13_filledAs : jx_Sp := fun as g M Po => match as with
  | [(73, _, y), (0, _, k), (0, _, t)] => ((0 ≤ M y 9 ∧ M y 9 ≤ 16) ∧ (1 ≤ M y 27 ∧ M y 27 ≤ 60) ∧ jx_r k ∧ jx_r t ∧ mm_up (mY M y) ∧ (∀ a, 0 ≤ a → a < M y 9 → 0 ≤ M (y + 27) a ∧ M (y + 27) a ≤ 1000000)) ∧ Po (0, 0, mm_fill (mY M y) (mY M y 27) k t) g M
  | _ => False
set_option maxHeartbeats 4000000 in
theorem jt_X13_filledAs (l : Launch) : jx_Ct l yX13_filledAs (ws_ yX13_filledAs cX13_filledAs 6 (some .int)) 0 0 0 js_X13_filledAs := by
  refine jx_Ct_c (rc := 0) (by decide) rfl (fun D as g M Po hS => ?_)
  unfold js_X13_filledAs at hS
  split at hS
  · rename_i n1 y n2 k n3 t
    obtain ⟨⟨h1, h2, r1, r2, h3, h4⟩, hP⟩ := hS
    refine ⟨Nat.le_of_ble_eq_true rfl, ?_⟩
    have loop : ∀ (f a : Nat) (P : jx_A), (a : Int) + f = M y 9 → jx_V D l (yX13_filledAs.cls, cX13_filledAs, 6, 0, [], 0, 0, 0, yX13_filledAs.name) Po 5 [(73, n1, y), (0, n2, k), (0, n3, t), (0, 0, mm_sum (mm_fa (mY M y) (mY M y 27) k t) a), (0, 0, (a : Int)), P] [] (0, 0) g (M) := by
      intro f
      induction f with
      | zero =>
        intro a P ha
        refine jx_runL (o := jo_X13) (cs := []) (hf := jx_nh) jo_X13_ok jx_cs0 (jx_HK_nil rfl) (fun p => p == 5) 60 ?_
        simp only [jw, ju, jx_tg, Int.cast_ofNat_Int, Int.reduceAdd, Int.reduceToNat, Nat.reduceAdd, Nat.reduceMul, Nat.reduceBEq, Nat.reduceLeDiff, Int.reduceLE, Int.reduceLT, Int.reduceEq, Int.reduceNeg, Int.reduceSub, Int.reduceMul, not_false_eq_true, true_and, and_true, and_self, Bool.or_false, Bool.false_or, Bool.or_true, Bool.true_or, List.length_nil, List.length_cons, Nat.zero_le, or_true, true_or, Nat.le_refl, ↓reduceIte, Nat.reduceEqDiff, forall_const, false_and, and_false, false_implies, implies_true, not_true_eq_false, or_false, false_or, ne_eq, jd_X13_filledAs, jf_X13]
        refine ⟨by omega, fun c => ?_, fun c => by omega⟩
        unfold mm_fill at hP
        rw [mY_0, show (M y 9).toNat = a by omega] at hP
        exact hP
      | succ f ih =>
        intro a P ha
        have q1 := h3 a (by omega) (by rw [mY_0]; omega)
        have q2 := h4 a (by omega) (by omega)
        simp only [mY_j] at q1
        have hsr := mm_sum_r (mm_fa (mY M y) (mY M y 27) k t) 8 (by omega) a (fun v _ _ => mm_fa_r)
        obtain ⟨s0, hs0⟩ : ∃ s0, s0 = mm_sum (mm_fa (mY M y) (mY M y 27) k t) a := ⟨_, rfl⟩
        have nxt : ∀ P : jx_A, jx_V D l (yX13_filledAs.cls, cX13_filledAs, 6, 0, [], 0, 0, 0, yX13_filledAs.name) Po 79 [(73, n1, y), (0, n2, k), (0, n3, t), (0, 0, mm_sum (mm_fa (mY M y) (mY M y 27) k t) (a + 1)), (0, 0, (a : Int)), P] [] (0, 0) g (M) := by
          intro P
          refine jx_runL (o := jo_X13) (cs := []) (hf := jx_nh) jo_X13_ok jx_cs0 (jx_HK_nil rfl) (fun p => p == 5) 60 ?_
          simp only [jw, ju, jx_tg, Int.cast_ofNat_Int, Int.reduceAdd, Int.reduceToNat, Nat.reduceAdd, Nat.reduceMul, Nat.reduceBEq, Nat.reduceLeDiff, Int.reduceLE, Int.reduceLT, Int.reduceEq, Int.reduceNeg, Int.reduceSub, Int.reduceMul, not_false_eq_true, true_and, and_true, and_self, Bool.or_false, Bool.false_or, Bool.or_true, Bool.true_or, List.length_nil, List.length_cons, Nat.zero_le, or_true, true_or, Nat.le_refl, ↓reduceIte, Nat.reduceEqDiff, forall_const, false_and, and_false, false_implies, implies_true, not_true_eq_false, or_false, false_or, ne_eq, jd_X13_filledAs, jf_X13]
          exact ih (a + 1) P (by omega)
        have es : mm_sum (mm_fa (mY M y) (mY M y 27) k t) (a + 1) = s0 + mm_fa (mY M y) (mY M y 27) k t a := by rw [hs0]; rfl
        rw [es] at nxt
        rw [← hs0] at hsr
        have inner : M (y + 3) a = k → ∀ (f i : Nat), i + f = 8 → jx_V D l (yX13_filledAs.cls, cX13_filledAs, 6, 0, [], 0, 0, 0, yX13_filledAs.name) Po 17 [(73, n1, y), (0, n2, k), (0, n3, t), (0, 0, s0 + mm_f8 (M (y + 4) a) (M (y + 27) a) (M y 27) t i), (0, 0, (a : Int)), (0, 0, (i : Int))] [] (0, 0) g (M) := by
          intro hk f
          induction f with
          | zero =>
            intro i hi
            have e8 : mm_fa (mY M y) (mY M y 27) k t a = mm_f8 (M (y + 4) a) (M (y + 27) a) (M y 27) t i := by
              unfold mm_fa
              rw [if_pos (show mY M y 3 a = k from hk), mY_0, show i = 8 by omega]
              rfl
            rw [← e8]
            refine jx_runL (o := jo_X13) (cs := []) (hf := jx_nh) jo_X13_ok jx_cs0 (jx_HK_nil rfl) (fun p => p == 17 || p == 79) 60 ?_
            simp only [jw, ju, jx_tg, Int.cast_ofNat_Int, Int.reduceAdd, Int.reduceToNat, Nat.reduceAdd, Nat.reduceMul, Nat.reduceBEq, Nat.reduceLeDiff, Int.reduceLE, Int.reduceLT, Int.reduceEq, Int.reduceNeg, Int.reduceSub, Int.reduceMul, not_false_eq_true, true_and, and_true, and_self, Bool.or_false, Bool.false_or, Bool.or_true, Bool.true_or, List.length_nil, List.length_cons, Nat.zero_le, or_true, true_or, Nat.le_refl, ↓reduceIte, Nat.reduceEqDiff, forall_const, false_and, and_false, false_implies, implies_true, not_true_eq_false, or_false, false_or, ne_eq, jd_X13_filledAs, jf_X13]
            exact ⟨by omega, fun c => nxt _, fun c => by omega⟩
          | succ f ih2 =>
            intro i hi
            have hx := ih2 (i + 1) (by omega)
            have hr := mm_f8_r (M (y + 4) a) (M (y + 27) a) (M y 27) t i
            have hx2 : mm_f8 (M (y + 4) a) (M (y + 27) a) (M y 27) t (i + 1) = mm_f8 (M (y + 4) a) (M (y + 27) a) (M y 27) t i + (if (M (y + 27) a + i) % M y 27 = t then mm_bit (M (y + 4) a) i else 0) := rfl
            have d1 := Int.emod_nonneg (M (y + 27) a + i) (show M y 27 ≠ 0 by omega)
            have d2 := Int.emod_lt_of_pos (M (y + 27) a + i) (show 0 < M y 27 by omega)
            rw [hx2] at hx
            refine jx_runL (o := jo_X13) (cs := []) (hf := jx_nh) jo_X13_ok jx_cs0 (jx_HK_nil rfl) (fun p => p == 17 || p == 79) 60 ?_
            simp only [jw, ju, jx_tg, Int.cast_ofNat_Int, Int.reduceAdd, Int.reduceToNat, Nat.reduceAdd, Nat.reduceMul, Nat.reduceBEq, Nat.reduceLeDiff, Int.reduceLE, Int.reduceLT, Int.reduceEq, Int.reduceNeg, Int.reduceSub, Int.reduceMul, not_false_eq_true, true_and, and_true, and_self, Bool.or_false, Bool.false_or, Bool.or_true, Bool.true_or, List.length_nil, List.length_cons, Nat.zero_le, or_true, true_or, Nat.le_refl, ↓reduceIte, Nat.reduceEqDiff, forall_const, false_and, and_false, false_implies, implies_true, not_true_eq_false, or_false, false_or, ne_eq, jd_X13_filledAs, jf_X13]
            rw [Int.tmod_eq_emod_of_nonneg (show 0 ≤ M (y + 27) a + (i : Int) by omega), mm_bit_ok (show 0 ≤ M (y + 4) a ∧ M (y + 4) a ≤ 255 by omega) (show 0 ≤ (i : Int) ∧ (i : Int) < 8 by omega)]
            refine ⟨by omega, fun c => by omega, fun c => ⟨by omega, by omega, fun c2 => by omega, fun c2 => ⟨by omega, by omega, by omega, fun c3 => ?_, fun c3 => ⟨by omega, ?_⟩⟩⟩⟩
            · rw [if_neg c3, ← Int.add_assoc] at hx
              exact hx
            · rw [if_pos (by omega), ← Int.add_assoc] at hx
              exact hx
        rw [← hs0]
        by_cases hk : M (y + 3) a = k
        · refine jx_runL (o := jo_X13) (cs := []) (hf := jx_nh) jo_X13_ok jx_cs0 (jx_HK_nil rfl) (fun p => p == 17) 60 ?_
          simp only [jw, ju, jx_tg, Int.cast_ofNat_Int, Int.reduceAdd, Int.reduceToNat, Nat.reduceAdd, Nat.reduceMul, Nat.reduceBEq, Nat.reduceLeDiff, Int.reduceLE, Int.reduceLT, Int.reduceEq, Int.reduceNeg, Int.reduceSub, Int.reduceMul, not_false_eq_true, true_and, and_true, and_self, Bool.or_false, Bool.false_or, Bool.or_true, Bool.true_or, List.length_nil, List.length_cons, Nat.zero_le, or_true, true_or, Nat.le_refl, ↓reduceIte, Nat.reduceEqDiff, forall_const, false_and, and_false, false_implies, implies_true, not_true_eq_false, or_false, false_or, ne_eq, jd_X13_filledAs, jf_X13]
          refine ⟨by omega, fun c => by omega, fun c => ?_⟩
          have := inner hk 8 0 rfl
          rw [show mm_f8 (M (y + 4) a) (M (y + 27) a) (M y 27) t 0 = 0 from rfl, Int.add_zero] at this
          exact this
        · have e8 : mm_fa (mY M y) (mY M y 27) k t a = 0 := if_neg (show ¬ mY M y 3 a = k from hk)
          rw [e8, Int.add_zero] at nxt
          refine jx_runL (o := jo_X13) (cs := []) (hf := jx_nh) jo_X13_ok jx_cs0 (jx_HK_nil rfl) (fun p => p == 79) 60 ?_
          simp only [jw, ju, jx_tg, Int.cast_ofNat_Int, Int.reduceAdd, Int.reduceToNat, Nat.reduceAdd, Nat.reduceMul, Nat.reduceBEq, Nat.reduceLeDiff, Int.reduceLE, Int.reduceLT, Int.reduceEq, Int.reduceNeg, Int.reduceSub, Int.reduceMul, not_false_eq_true, true_and, and_true, and_self, Bool.or_false, Bool.false_or, Bool.or_true, Bool.true_or, List.length_nil, List.length_cons, Nat.zero_le, or_true, true_or, Nat.le_refl, ↓reduceIte, Nat.reduceEqDiff, forall_const, false_and, and_false, false_implies, implies_true, not_true_eq_false, or_false, false_or, ne_eq, jd_X13_filledAs, jf_X13]
          exact ⟨by omega, fun c => by omega, fun c => ⟨by omega, by omega, fun c2 => nxt _, fun c2 => by omega⟩⟩
    refine jx_runL (o := jo_X13) (cs := []) (hf := jx_nh) jo_X13_ok jx_cs0 (jx_HK_nil rfl) (fun p => p == 5) 60 ?_
    simp only [jw, ju, jx_tg, Int.cast_ofNat_Int, Int.reduceAdd, Int.reduceToNat, Nat.reduceAdd, Nat.reduceMul, Nat.reduceBEq, Nat.reduceLeDiff, Int.reduceLE, Int.reduceLT, Int.reduceEq, Int.reduceNeg, Int.reduceSub, Int.reduceMul, not_false_eq_true, true_and, and_true, and_self, Bool.or_false, Bool.false_or, Bool.or_true, Bool.true_or, List.length_nil, List.length_cons, Nat.zero_le, or_true, true_or, Nat.le_refl, ↓reduceIte, Nat.reduceEqDiff, forall_const, false_and, and_false, false_implies, implies_true, not_true_eq_false, or_false, false_or, ne_eq, jd_X13_filledAs, jf_X13]
    exact loop (M y 9).toNat 0 _ (by omega)
  · exact hS.elim
noncomputable def f_filled (k t : Int) (S : jx_M) : mR := if S 0 27 = 0 then mno (-2) S else @ite _ ((0 ≤ k ∧ k ≤ 5) ∧ (0 ≤ t ∧ t < S 0 27)) (Classical.propDecidable _) (mm_fill S (S 24) k t, S) (mno (-3) S)
def js_X13_filled : jx_Sp := fun as g M Po => match as with
  | [(73, _, y), (0, _, k), (0, _, t)] => ((0 ≤ M y 9 ∧ M y 9 ≤ 16) ∧ (0 ≤ M y 27 ∧ M y 27 ≤ 60) ∧ jx_r k ∧ jx_r t ∧ mm_up (mY M y) ∧ (M y 27 ≠ 0 → ∀ a, 0 ≤ a → a < M y 9 → 0 ≤ M (y + 24) a ∧ M (y + 24) a ≤ 1000000)) ∧ mK y g M Po 0 (f_filled k t (mY M y)).1 (f_filled k t (mY M y)).2
  | _ => False
def cs_X13_filled : jx_Cs := [(412, 3, 0, 0, js_X13_isIn), (372, 2, 0, 0, js_X13_no)]
theorem hc_X13_filled {D : jx_D} {l : Launch} : jx_CsOK D l "LoopLaneModel" 3 cs_X13_filled := List.forall_mem_cons.mpr ⟨jc_X13_137 (jt_X13_isIn l) (fun as g M Po (h : js_X13_isIn as g M Po) => by unfold js_X13_isIn at h; split at h <;> first | exact h.elim | exact rfl) (by decide), List.forall_mem_cons.mpr ⟨jc_X13_124 (jt_X13_no l) (fun as g M Po (h : js_X13_no as g M Po) => by unfold js_X13_no at h; split at h <;> first | exact h.elim | exact ⟨_, _, _, rfl, rfl⟩) (by decide), fun _ h => absurd h List.not_mem_nil⟩⟩
set_option maxHeartbeats 4000000 in
theorem jt_X13_filled (l : Launch) : jx_Ct l yX13_filled (ws_ yX13_filled cX13_filled 6 (some .int)) 3 0 0 js_X13_filled := by
  refine jx_Ct_c (rc := 0) (by decide) rfl (fun D as g M Po hS => ?_)
  unfold js_X13_filled at hS
  split at hS
  · rename_i n1 y n2 k n3 t
    obtain ⟨⟨h1, h2b, r1, r2, h3, h4b⟩, hK⟩ := hS
    unfold f_filled at hK
    simp only [mK_ite, mno] at hK
    simp only [mY_0] at hK
    refine ⟨Nat.le_of_ble_eq_true rfl, ?_⟩
    by_cases hb : M y 27 = 0
    · refine jx_runL (o := jo_X13) (cs := cs_X13_filled) (hf := jx_nh) jo_X13_ok hc_X13_filled (jx_HK_nil rfl) (fun p => p == 14) 60 ?_
      simp only [jw, ju, jx_tg, Int.cast_ofNat_Int, Int.reduceAdd, Int.reduceToNat, Nat.reduceAdd, Nat.reduceMul, Nat.reduceBEq, Nat.reduceLeDiff, Int.reduceLE, Int.reduceLT, Int.reduceEq, Int.reduceNeg, Int.reduceSub, Int.reduceMul, not_false_eq_true, true_and, and_true, and_self, Bool.or_false, Bool.false_or, Bool.or_true, Bool.true_or, List.length_nil, List.length_cons, Nat.zero_le, or_true, true_or, Nat.le_refl, ↓reduceIte, Nat.reduceEqDiff, forall_const, false_and, and_false, false_implies, implies_true, not_true_eq_false, or_false, false_or, ne_eq, jd_X13_filled, jf_X13, js_X13_isIn, js_X13_no, cs_X13_filled, jx_ck_c]
      exact ⟨by omega, fun c => by omega, fun c => mK_no (hK.1 hb)⟩
    have h2 : 1 ≤ M y 27 ∧ M y 27 ≤ 60 := by omega
    have h4 := h4b hb
    have hK2 := hK.2 hb
    by_cases hin : (0 ≤ k ∧ k ≤ 5) ∧ (0 ≤ t ∧ t < M y 27)
    · have hP := hK2.1 hin
      have loop : ∀ (f a : Nat) (P : jx_A), (a : Int) + f = M y 9 → jx_V D l (yX13_filled.cls, cX13_filled, 6, 0, [], 3, 0, 0, yX13_filled.name) Po 50 [(73, n1, y), (0, n2, k), (0, n3, t), (0, 0, mm_sum (mm_fa (mY M y) (mY M y 24) k t) a), (0, 0, (a : Int)), P] [] (0, 0) g (M) := by
        intro f
        induction f with
        | zero =>
          intro a P ha
          refine jx_runL (o := jo_X13) (cs := cs_X13_filled) (hf := jx_nh) jo_X13_ok hc_X13_filled (jx_HK_nil rfl) (fun p => p == 50) 60 ?_
          simp only [jw, ju, jx_tg, Int.cast_ofNat_Int, Int.reduceAdd, Int.reduceToNat, Nat.reduceAdd, Nat.reduceMul, Nat.reduceBEq, Nat.reduceLeDiff, Int.reduceLE, Int.reduceLT, Int.reduceEq, Int.reduceNeg, Int.reduceSub, Int.reduceMul, not_false_eq_true, true_and, and_true, and_self, Bool.or_false, Bool.false_or, Bool.or_true, Bool.true_or, List.length_nil, List.length_cons, Nat.zero_le, or_true, true_or, Nat.le_refl, ↓reduceIte, Nat.reduceEqDiff, forall_const, false_and, and_false, false_implies, implies_true, not_true_eq_false, or_false, false_or, ne_eq, jd_X13_filled, jf_X13, js_X13_isIn, js_X13_no, cs_X13_filled, jx_ck_c]
          refine ⟨by omega, fun c => mK_s (y := y) ?_, fun c => by omega⟩
          unfold mm_fill at hP
          rw [mY_0, show (M y 9).toNat = a by omega] at hP
          exact hP
        | succ f ih =>
          intro a P ha
          have q1 := h3 a (by omega) (by rw [mY_0]; omega)
          have q2 := h4 a (by omega) (by omega)
          simp only [mY_j] at q1
          have hsr := mm_sum_r (mm_fa (mY M y) (mY M y 24) k t) 8 (by omega) a (fun v _ _ => mm_fa_r)
          obtain ⟨s0, hs0⟩ : ∃ s0, s0 = mm_sum (mm_fa (mY M y) (mY M y 24) k t) a := ⟨_, rfl⟩
          have nxt : ∀ P : jx_A, jx_V D l (yX13_filled.cls, cX13_filled, 6, 0, [], 3, 0, 0, yX13_filled.name) Po 124 [(73, n1, y), (0, n2, k), (0, n3, t), (0, 0, mm_sum (mm_fa (mY M y) (mY M y 24) k t) (a + 1)), (0, 0, (a : Int)), P] [] (0, 0) g (M) := by
            intro P
            refine jx_runL (o := jo_X13) (cs := cs_X13_filled) (hf := jx_nh) jo_X13_ok hc_X13_filled (jx_HK_nil rfl) (fun p => p == 50) 60 ?_
            simp only [jw, ju, jx_tg, Int.cast_ofNat_Int, Int.reduceAdd, Int.reduceToNat, Nat.reduceAdd, Nat.reduceMul, Nat.reduceBEq, Nat.reduceLeDiff, Int.reduceLE, Int.reduceLT, Int.reduceEq, Int.reduceNeg, Int.reduceSub, Int.reduceMul, not_false_eq_true, true_and, and_true, and_self, Bool.or_false, Bool.false_or, Bool.or_true, Bool.true_or, List.length_nil, List.length_cons, Nat.zero_le, or_true, true_or, Nat.le_refl, ↓reduceIte, Nat.reduceEqDiff, forall_const, false_and, and_false, false_implies, implies_true, not_true_eq_false, or_false, false_or, ne_eq, jd_X13_filled, jf_X13, js_X13_isIn, js_X13_no, cs_X13_filled, jx_ck_c]
            exact ih (a + 1) P (by omega)
          have es : mm_sum (mm_fa (mY M y) (mY M y 24) k t) (a + 1) = s0 + mm_fa (mY M y) (mY M y 24) k t a := by rw [hs0]; rfl
          rw [es] at nxt
          rw [← hs0] at hsr
          have inner : M (y + 3) a = k → ∀ (f i : Nat), i + f = 8 → jx_V D l (yX13_filled.cls, cX13_filled, 6, 0, [], 3, 0, 0, yX13_filled.name) Po 62 [(73, n1, y), (0, n2, k), (0, n3, t), (0, 0, s0 + mm_f8 (M (y + 4) a) (M (y + 24) a) (M y 27) t i), (0, 0, (a : Int)), (0, 0, (i : Int))] [] (0, 0) g (M) := by
            intro hk f
            induction f with
            | zero =>
              intro i hi
              have e8 : mm_fa (mY M y) (mY M y 24) k t a = mm_f8 (M (y + 4) a) (M (y + 24) a) (M y 27) t i := by
                unfold mm_fa
                rw [if_pos (show mY M y 3 a = k from hk), mY_0, show i = 8 by omega]
                rfl
              rw [← e8]
              refine jx_runL (o := jo_X13) (cs := cs_X13_filled) (hf := jx_nh) jo_X13_ok hc_X13_filled (jx_HK_nil rfl) (fun p => p == 62 || p == 124) 60 ?_
              simp only [jw, ju, jx_tg, Int.cast_ofNat_Int, Int.reduceAdd, Int.reduceToNat, Nat.reduceAdd, Nat.reduceMul, Nat.reduceBEq, Nat.reduceLeDiff, Int.reduceLE, Int.reduceLT, Int.reduceEq, Int.reduceNeg, Int.reduceSub, Int.reduceMul, not_false_eq_true, true_and, and_true, and_self, Bool.or_false, Bool.false_or, Bool.or_true, Bool.true_or, List.length_nil, List.length_cons, Nat.zero_le, or_true, true_or, Nat.le_refl, ↓reduceIte, Nat.reduceEqDiff, forall_const, false_and, and_false, false_implies, implies_true, not_true_eq_false, or_false, false_or, ne_eq, jd_X13_filled, jf_X13, js_X13_isIn, js_X13_no, cs_X13_filled, jx_ck_c]
              exact ⟨by omega, fun c => nxt _, fun c => by omega⟩
            | succ f ih2 =>
              intro i hi
              have hx := ih2 (i + 1) (by omega)
              have hr := mm_f8_r (M (y + 4) a) (M (y + 24) a) (M y 27) t i
              have hx2 : mm_f8 (M (y + 4) a) (M (y + 24) a) (M y 27) t (i + 1) = mm_f8 (M (y + 4) a) (M (y + 24) a) (M y 27) t i + (if (M (y + 24) a + i) % M y 27 = t then mm_bit (M (y + 4) a) i else 0) := rfl
              have d1 := Int.emod_nonneg (M (y + 24) a + i) (show M y 27 ≠ 0 by omega)
              have d2 := Int.emod_lt_of_pos (M (y + 24) a + i) (show 0 < M y 27 by omega)
              rw [hx2] at hx
              refine jx_runL (o := jo_X13) (cs := cs_X13_filled) (hf := jx_nh) jo_X13_ok hc_X13_filled (jx_HK_nil rfl) (fun p => p == 62 || p == 124) 60 ?_
              simp only [jw, ju, jx_tg, Int.cast_ofNat_Int, Int.reduceAdd, Int.reduceToNat, Nat.reduceAdd, Nat.reduceMul, Nat.reduceBEq, Nat.reduceLeDiff, Int.reduceLE, Int.reduceLT, Int.reduceEq, Int.reduceNeg, Int.reduceSub, Int.reduceMul, not_false_eq_true, true_and, and_true, and_self, Bool.or_false, Bool.false_or, Bool.or_true, Bool.true_or, List.length_nil, List.length_cons, Nat.zero_le, or_true, true_or, Nat.le_refl, ↓reduceIte, Nat.reduceEqDiff, forall_const, false_and, and_false, false_implies, implies_true, not_true_eq_false, or_false, false_or, ne_eq, jd_X13_filled, jf_X13, js_X13_isIn, js_X13_no, cs_X13_filled, jx_ck_c]
              rw [Int.tmod_eq_emod_of_nonneg (show 0 ≤ M (y + 24) a + (i : Int) by omega), mm_bit_ok (show 0 ≤ M (y + 4) a ∧ M (y + 4) a ≤ 255 by omega) (show 0 ≤ (i : Int) ∧ (i : Int) < 8 by omega)]
              refine ⟨by omega, fun c => by omega, fun c => ⟨by omega, by omega, fun c2 => by omega, fun c2 => ⟨by omega, by omega, by omega, fun c3 => ?_, fun c3 => ⟨by omega, ?_⟩⟩⟩⟩
              · rw [if_neg c3, ← Int.add_assoc] at hx
                exact hx
              · rw [if_pos (by omega), ← Int.add_assoc] at hx
                exact hx
          rw [← hs0]
          by_cases hk : M (y + 3) a = k
          · refine jx_runL (o := jo_X13) (cs := cs_X13_filled) (hf := jx_nh) jo_X13_ok hc_X13_filled (jx_HK_nil rfl) (fun p => p == 62) 60 ?_
            simp only [jw, ju, jx_tg, Int.cast_ofNat_Int, Int.reduceAdd, Int.reduceToNat, Nat.reduceAdd, Nat.reduceMul, Nat.reduceBEq, Nat.reduceLeDiff, Int.reduceLE, Int.reduceLT, Int.reduceEq, Int.reduceNeg, Int.reduceSub, Int.reduceMul, not_false_eq_true, true_and, and_true, and_self, Bool.or_false, Bool.false_or, Bool.or_true, Bool.true_or, List.length_nil, List.length_cons, Nat.zero_le, or_true, true_or, Nat.le_refl, ↓reduceIte, Nat.reduceEqDiff, forall_const, false_and, and_false, false_implies, implies_true, not_true_eq_false, or_false, false_or, ne_eq, jd_X13_filled, jf_X13, js_X13_isIn, js_X13_no, cs_X13_filled, jx_ck_c]
            refine ⟨by omega, fun c => by omega, fun c => ?_⟩
            have := inner hk 8 0 rfl
            rw [show mm_f8 (M (y + 4) a) (M (y + 24) a) (M y 27) t 0 = 0 from rfl, Int.add_zero] at this
            exact this
          · have e8 : mm_fa (mY M y) (mY M y 24) k t a = 0 := if_neg (show ¬ mY M y 3 a = k from hk)
            rw [e8, Int.add_zero] at nxt
            refine jx_runL (o := jo_X13) (cs := cs_X13_filled) (hf := jx_nh) jo_X13_ok hc_X13_filled (jx_HK_nil rfl) (fun p => p == 124) 60 ?_
            simp only [jw, ju, jx_tg, Int.cast_ofNat_Int, Int.reduceAdd, Int.reduceToNat, Nat.reduceAdd, Nat.reduceMul, Nat.reduceBEq, Nat.reduceLeDiff, Int.reduceLE, Int.reduceLT, Int.reduceEq, Int.reduceNeg, Int.reduceSub, Int.reduceMul, not_false_eq_true, true_and, and_true, and_self, Bool.or_false, Bool.false_or, Bool.or_true, Bool.true_or, List.length_nil, List.length_cons, Nat.zero_le, or_true, true_or, Nat.le_refl, ↓reduceIte, Nat.reduceEqDiff, forall_const, false_and, and_false, false_implies, implies_true, not_true_eq_false, or_false, false_or, ne_eq, jd_X13_filled, jf_X13, js_X13_isIn, js_X13_no, cs_X13_filled, jx_ck_c]
            exact ⟨by omega, fun c => by omega, fun c => ⟨by omega, by omega, fun c2 => nxt _, fun c2 => by omega⟩⟩
      refine jx_runL (o := jo_X13) (cs := cs_X13_filled) (hf := jx_nh) jo_X13_ok hc_X13_filled (jx_HK_nil rfl) (fun p => p == 14) 60 ?_
      simp only [jw, ju, jx_tg, Int.cast_ofNat_Int, Int.reduceAdd, Int.reduceToNat, Nat.reduceAdd, Nat.reduceMul, Nat.reduceBEq, Nat.reduceLeDiff, Int.reduceLE, Int.reduceLT, Int.reduceEq, Int.reduceNeg, Int.reduceSub, Int.reduceMul, not_false_eq_true, true_and, and_true, and_self, Bool.or_false, Bool.false_or, Bool.or_true, Bool.true_or, List.length_nil, List.length_cons, Nat.zero_le, or_true, true_or, Nat.le_refl, ↓reduceIte, Nat.reduceEqDiff, forall_const, false_and, and_false, false_implies, implies_true, not_true_eq_false, or_false, false_or, ne_eq, jd_X13_filled, jf_X13, js_X13_isIn, js_X13_no, cs_X13_filled, jx_ck_c]
      refine ⟨by omega, fun c => ?_, fun c => by omega⟩
      refine jx_runL (o := jo_X13) (cs := cs_X13_filled) (hf := jx_nh) jo_X13_ok hc_X13_filled (jx_HK_nil rfl) (fun p => p == 50) 60 ?_
      simp only [jw, ju, jx_tg, Int.cast_ofNat_Int, Int.reduceAdd, Int.reduceToNat, Nat.reduceAdd, Nat.reduceMul, Nat.reduceBEq, Nat.reduceLeDiff, Int.reduceLE, Int.reduceLT, Int.reduceEq, Int.reduceNeg, Int.reduceSub, Int.reduceMul, not_false_eq_true, true_and, and_true, and_self, Bool.or_false, Bool.false_or, Bool.or_true, Bool.true_or, List.length_nil, List.length_cons, Nat.zero_le, or_true, true_or, Nat.le_refl, ↓reduceIte, Nat.reduceEqDiff, forall_const, false_and, and_false, false_implies, implies_true, not_true_eq_false, or_false, false_or, ne_eq, jd_X13_filled, jf_X13, js_X13_isIn, js_X13_no, cs_X13_filled, jx_ck_c]
      exact ⟨r1, fun c1 => ⟨r2, fun c2 => by omega, fun c2 => ⟨⟨r2, by omega⟩, fun c3 => loop (M y 9).toNat 0 _ (by omega), fun c3 => by omega⟩⟩, fun c1 => by omega⟩
    · refine jx_runL (o := jo_X13) (cs := cs_X13_filled) (hf := jx_nh) jo_X13_ok hc_X13_filled (jx_HK_nil rfl) (fun p => p == 14) 60 ?_
      simp only [jw, ju, jx_tg, Int.cast_ofNat_Int, Int.reduceAdd, Int.reduceToNat, Nat.reduceAdd, Nat.reduceMul, Nat.reduceBEq, Nat.reduceLeDiff, Int.reduceLE, Int.reduceLT, Int.reduceEq, Int.reduceNeg, Int.reduceSub, Int.reduceMul, not_false_eq_true, true_and, and_true, and_self, Bool.or_false, Bool.false_or, Bool.or_true, Bool.true_or, List.length_nil, List.length_cons, Nat.zero_le, or_true, true_or, Nat.le_refl, ↓reduceIte, Nat.reduceEqDiff, forall_const, false_and, and_false, false_implies, implies_true, not_true_eq_false, or_false, false_or, ne_eq, jd_X13_filled, jf_X13, js_X13_isIn, js_X13_no, cs_X13_filled, jx_ck_c]
      refine ⟨by omega, fun c => ?_, fun c => by omega⟩
      refine jx_runL (o := jo_X13) (cs := cs_X13_filled) (hf := jx_nh) jo_X13_ok hc_X13_filled (jx_HK_nil rfl) (fun p => p == 45) 60 ?_
      simp only [jw, ju, jx_tg, Int.cast_ofNat_Int, Int.reduceAdd, Int.reduceToNat, Nat.reduceAdd, Nat.reduceMul, Nat.reduceBEq, Nat.reduceLeDiff, Int.reduceLE, Int.reduceLT, Int.reduceEq, Int.reduceNeg, Int.reduceSub, Int.reduceMul, not_false_eq_true, true_and, and_true, and_self, Bool.or_false, Bool.false_or, Bool.or_true, Bool.true_or, List.length_nil, List.length_cons, Nat.zero_le, or_true, true_or, Nat.le_refl, ↓reduceIte, Nat.reduceEqDiff, forall_const, false_and, and_false, false_implies, implies_true, not_true_eq_false, or_false, false_or, ne_eq, jd_X13_filled, jf_X13, js_X13_isIn, js_X13_no, cs_X13_filled, jx_ck_c]
      exact ⟨r1, fun c1 => ⟨r2, fun c2 => mK_no (hK2.2 hin), fun c2 => ⟨⟨r2, by omega⟩, fun c3 => by omega, fun c3 => mK_no (hK2.2 hin)⟩⟩, fun c1 => mK_no (hK2.2 hin)⟩
  · exact hS.elim
