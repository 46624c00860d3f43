/-! the reference: fits -/
set_option maxRecDepth 100000
/-- units of a kind at a tick, by ticks T of the first n acts at a beat b -/
def mm_fb (S : jx_M) (T : Int → Int) (b k t a : Int) : Int := if S 3 a = k then mm_f8 (S 4 a) (T a) b t 8 else 0
def mm_fl (S : jx_M) (T : Int → Int) (n : Nat) (b k t : Int) : Int := mm_sum (mm_fb S T b k t) n
def mm_fits (S : jx_M) (T : Int → Int) (n : Nat) (b : Int) : Prop := ∀ k t, 0 ≤ k → k < 6 → 0 ≤ t → t < b → mm_fl S T n b k t ≤ S 10 k
theorem mm_fb_r {S : jx_M} {T : Int → Int} {b k t a : Int} : 0 ≤ mm_fb S T b k t a ∧ mm_fb S T b k t a ≤ 8 := by
  unfold mm_fb
  split
  · have := mm_f8_r (S 4 a) (T a) b t 8
    omega
  · omega
/-- only 'full' changes -/
def mFf (y : Int) (M M' : jx_M) : Prop := ∀ z i : Int, z ≠ y + 30 → M' z i = M z i
theorem mFf_u {y i v : Int} {M M' : jx_M} (h : mFf y M M') : mFf y M (jx_u M' (y + 30) i v) := fun z k q => by
  rw [jx_u_a _ _ _ _ _ _ q]
  exact h z k q
theorem mFf_0 {y k : Int} {M M' : jx_M} (h : mFf y M M') : M' y k = M y k := h y k (by omega)
theorem mFf_j {y j k : Int} {M M' : jx_M} (h : mFf y M M') (hj : j ≠ 30) : M' (y + j) k = M (y + j) k := h _ _ (by omega)
def js_X13_fits : jx_Sp := fun as g M Po => match as with
  | [(73, _, y), (0, _, n), (0, _, b)] => ((1 ≤ n ∧ n ≤ 16) ∧ (1 ≤ b ∧ b ≤ 60) ∧ (∀ a, 0 ≤ a → a < n → (0 ≤ M (y + 3) a ∧ M (y + 3) a ≤ 5) ∧ (1 ≤ M (y + 4) a ∧ M (y + 4) a ≤ 255)) ∧ mm_uok (mY M y) ∧ (∀ v, 0 ≤ v → v < n → 0 ≤ M (y + 29) v ∧ M (y + 29) v < b)) ∧
      ∀ (r : Int) (M' : jx_M), (r = 1 ∧ mm_fits (mY M y) (M (y + 29)) n.toNat b ∨ r = 0 ∧ ¬ mm_fits (mY M y) (M (y + 29)) n.toNat b) → mFf y M M' → Po (0, 0, r) g M'
  | _ => False
set_option maxHeartbeats 4000000 in
theorem jt_X13_fits (l : Launch) : jx_Ct l yX13_fits (ws_ yX13_fits cX13_fits 6 (some .boolean)) 0 0 0 js_X13_fits := by
  refine jx_Ct_c (rc := 4) (by decide) rfl (fun D as g M Po hS => ?_)
  unfold js_X13_fits at hS
  split at hS
  · rename_i n1 y n2 n n3 b
    obtain ⟨⟨h1, h2, h3, h4, h5⟩, hP⟩ := hS
    refine ⟨Nat.le_of_ble_eq_true rfl, ?_⟩
    have outer : ∀ (f k : Nat) (M' : jx_M) (P4 P5 : jx_A), k + f = 6 → mFf y M M' → (∀ k' t : Int, 0 ≤ k' → k' < k → 0 ≤ t → t < b → mm_fl (mY M y) (M (y + 29)) n.toNat b k' t ≤ M (y + 10) k') → jx_V D l (yX13_fits.cls, cX13_fits, 6, 4, [], 0, 0, 0, yX13_fits.name) Po 2 [(73, n1, y), (0, n2, n), (0, n3, b), (0, 0, (k : Int)), P4, P5] [] (0, 0) g (M') := by
      intro f
      induction f with
      | zero =>
        intro k M' P4 P5 hk k1 k2
        refine jx_runL (o := jo_X13) (cs := []) (hf := jx_nh) jo_X13_ok jx_cs0 (jx_HK_nil rfl) (fun p => p == 2) 60 ?_
        simp only [jw, ju, jx_tg, Int.cast_ofNat_Int, Int.reduceAdd, Int.reduceToNat, Nat.reduceAdd, Nat.reduceMul, Nat.reduceBEq, Nat.reduceLeDiff, Int.reduceLE, Int.reduceLT, Int.reduceEq, Int.reduceNeg, Int.reduceSub, Int.reduceMul, not_false_eq_true, true_and, and_true, and_self, Bool.or_false, Bool.false_or, Bool.or_true, Bool.true_or, List.length_nil, List.length_cons, Nat.zero_le, or_true, true_or, Nat.le_refl, ↓reduceIte, Nat.reduceEqDiff, forall_const, false_and, and_false, false_implies, implies_true, not_true_eq_false, or_false, false_or, ne_eq, jd_X13_fits, jf_X13]
        exact ⟨by omega, fun c => hP 1 M' (Or.inl ⟨rfl, fun k' t a1 a2 a3 a4 => k2 k' t a1 (by omega) a3 a4⟩) k1, fun c => by omega⟩
      | succ f ih =>
        intro k M' P4 P5 hk k1 k2
        have hu := h4 k (by omega) (by omega)
        simp only [mY_j] at hu
        have hfr : ∀ t, 0 ≤ mm_fl (mY M y) (M (y + 29)) n.toNat b k t ∧ mm_fl (mY M y) (M (y + 29)) n.toNat b k t ≤ 128 := fun t => by
          have := mm_sum_r (mm_fb (mY M y) (M (y + 29)) b k t) 8 (by omega) n.toNat (fun v _ _ => mm_fb_r)
          unfold mm_fl
          omega
        have check : ∀ (f t : Nat) (M' : jx_M) (P5 : jx_A), (t : Int) + f = b → mFf y M M' → (∀ t : Int, 0 ≤ t → t < b → M' (y + 30) t = mm_fl (mY M y) (M (y + 29)) n.toNat b k t) → (∀ u : Int, 0 ≤ u → u < t → mm_fl (mY M y) (M (y + 29)) n.toNat b k u ≤ M (y + 10) k) → jx_V D l (yX13_fits.cls, cX13_fits, 6, 4, [], 0, 0, 0, yX13_fits.name) Po 108 [(73, n1, y), (0, n2, n), (0, n3, b), (0, 0, (k : Int)), (0, 0, (t : Int)), P5] [] (0, 0) g (M') := by
          intro f
          induction f with
          | zero =>
            intro t M' P5 ht j1 j2 j3
            refine jx_runL (o := jo_X13) (cs := []) (hf := jx_nh) jo_X13_ok jx_cs0 (jx_HK_nil rfl) (fun p => p == 2 || p == 108) 60 ?_
            simp only [jw, ju, jx_tg, Int.cast_ofNat_Int, Int.reduceAdd, Int.reduceToNat, Nat.reduceAdd, Nat.reduceMul, Nat.reduceBEq, Nat.reduceLeDiff, Int.reduceLE, Int.reduceLT, Int.reduceEq, Int.reduceNeg, Int.reduceSub, Int.reduceMul, not_false_eq_true, true_and, and_true, and_self, Bool.or_false, Bool.false_or, Bool.or_true, Bool.true_or, List.length_nil, List.length_cons, Nat.zero_le, or_true, true_or, Nat.le_refl, ↓reduceIte, Nat.reduceEqDiff, forall_const, false_and, and_false, false_implies, implies_true, not_true_eq_false, or_false, false_or, ne_eq, jd_X13_fits, jf_X13]
            refine ⟨by omega, fun c => ih (k + 1) M' _ _ (by omega) j1 (fun k' t' a1 a2 a3 a4 => ?_), fun c => by omega⟩
            by_cases hk' : k' = k
            · rw [hk']
              exact j3 t' a3 (by omega)
            · exact k2 k' t' a1 (by omega) a3 a4
          | succ f ih2 =>
            intro t M' P5 ht j1 j2 j3
            have q10 : M' (y + 10) k = M (y + 10) k := mFf_j j1 (by decide)
            have q30 := j2 t (by omega) (by omega)
            have qf := hfr t
            refine jx_runL (o := jo_X13) (cs := []) (hf := jx_nh) jo_X13_ok jx_cs0 (jx_HK_nil rfl) (fun p => p == 2 || p == 108) 60 ?_
            simp only [jw, ju, jx_tg, Int.cast_ofNat_Int, Int.reduceAdd, Int.reduceToNat, Nat.reduceAdd, Nat.reduceMul, Nat.reduceBEq, Nat.reduceLeDiff, Int.reduceLE, Int.reduceLT, Int.reduceEq, Int.reduceNeg, Int.reduceSub, Int.reduceMul, not_false_eq_true, true_and, and_true, and_self, Bool.or_false, Bool.false_or, Bool.or_true, Bool.true_or, List.length_nil, List.length_cons, Nat.zero_le, or_true, true_or, Nat.le_refl, ↓reduceIte, Nat.reduceEqDiff, forall_const, false_and, and_false, false_implies, implies_true, not_true_eq_false, or_false, false_or, ne_eq, jd_X13_fits, jf_X13, q10, q30]
            refine ⟨by omega, fun c => by omega, fun c => ⟨by omega, by omega, by omega, fun c2 => ih2 (t + 1) M' _ (by omega) j1 j2 (fun u a1 a2 => ?_), fun c2 => hP 0 M' (Or.inr ⟨rfl, fun z => c2 (z k t (by omega) (by omega) (by omega) (by omega))⟩) j1⟩⟩
            by_cases hu' : u = t
            · rw [hu']
              exact c2
            · exact j3 u a1 (by omega)
        have fill : ∀ (f a : Nat) (M' : jx_M) (P5 : jx_A), (a : Int) + f = n → mFf y M M' → (∀ t : Int, 0 ≤ t → t < b → M' (y + 30) t = mm_sum (mm_fb (mY M y) (M (y + 29)) b k t) a) → jx_V D l (yX13_fits.cls, cX13_fits, 6, 4, [], 0, 0, 0, yX13_fits.name) Po 34 [(73, n1, y), (0, n2, n), (0, n3, b), (0, 0, (k : Int)), (0, 0, (a : Int)), P5] [] (0, 0) g (M') := by
          intro f
          induction f with
          | zero =>
            intro a M' P5 ha j1 j2
            refine jx_runL (o := jo_X13) (cs := []) (hf := jx_nh) jo_X13_ok jx_cs0 (jx_HK_nil rfl) (fun p => p == 34 || p == 108) 60 ?_
            simp only [jw, ju, jx_tg, Int.cast_ofNat_Int, Int.reduceAdd, Int.reduceToNat, Nat.reduceAdd, Nat.reduceMul, Nat.reduceBEq, Nat.reduceLeDiff, Int.reduceLE, Int.reduceLT, Int.reduceEq, Int.reduceNeg, Int.reduceSub, Int.reduceMul, not_false_eq_true, true_and, and_true, and_self, Bool.or_false, Bool.false_or, Bool.or_true, Bool.true_or, List.length_nil, List.length_cons, Nat.zero_le, or_true, true_or, Nat.le_refl, ↓reduceIte, Nat.reduceEqDiff, forall_const, false_and, and_false, false_implies, implies_true, not_true_eq_false, or_false, false_or, ne_eq, jd_X13_fits, jf_X13]
            refine ⟨by omega, fun c => check b.toNat 0 M' _ (by omega) j1 (fun t a1 a2 => ?_) (fun u a1 a2 => by omega), fun c => by omega⟩
            unfold mm_fl
            rw [show n.toNat = a by omega]
            exact j2 t a1 a2
          | succ f ih2 =>
            intro a M' P5 ha j1 j2
            have w := h3 a (by omega) (by omega)
            have tk := h5 a (by omega) (by omega)
            have nxt : ∀ (M' : jx_M) (P5 : jx_A), mFf y M M' → (∀ t : Int, 0 ≤ t → t < b → M' (y + 30) t = mm_sum (mm_fb (mY M y) (M (y + 29)) b k t) a + mm_fb (mY M y) (M (y + 29)) b k t a) → jx_V D l (yX13_fits.cls, cX13_fits, 6, 4, [], 0, 0, 0, yX13_fits.name) Po 99 [(73, n1, y), (0, n2, n), (0, n3, b), (0, 0, (k : Int)), (0, 0, (a : Int)), P5] [] (0, 0) g (M') := by
              intro M' P5 j1 j2
              refine jx_runL (o := jo_X13) (cs := []) (hf := jx_nh) jo_X13_ok jx_cs0 (jx_HK_nil rfl) (fun p => p == 34) 60 ?_
              simp only [jw, ju, jx_tg, Int.cast_ofNat_Int, Int.reduceAdd, Int.reduceToNat, Nat.reduceAdd, Nat.reduceMul, Nat.reduceBEq, Nat.reduceLeDiff, Int.reduceLE, Int.reduceLT, Int.reduceEq, Int.reduceNeg, Int.reduceSub, Int.reduceMul, not_false_eq_true, true_and, and_true, and_self, Bool.or_false, Bool.false_or, Bool.or_true, Bool.true_or, List.length_nil, List.length_cons, Nat.zero_le, or_true, true_or, Nat.le_refl, ↓reduceIte, Nat.reduceEqDiff, forall_const, false_and, and_false, false_implies, implies_true, not_true_eq_false, or_false, false_or, ne_eq, jd_X13_fits, jf_X13]
              exact ih2 (a + 1) M' _ (by omega) j1 j2
            by_cases hk' : M (y + 3) a = k
            · have e8 : ∀ t, mm_fb (mY M y) (M (y + 29)) b k t a = mm_f8 (M (y + 4) a) (M (y + 29) a) b t 8 := fun t => if_pos hk'
              have inner : ∀ (f i : Nat) (M' : jx_M), i + f = 8 → mFf y M M' → (∀ t : Int, 0 ≤ t → t < b → M' (y + 30) t = mm_sum (mm_fb (mY M y) (M (y + 29)) b k t) a + mm_f8 (M (y + 4) a) (M (y + 29) a) b t i) → jx_V D l (yX13_fits.cls, cX13_fits, 6, 4, [], 0, 0, 0, yX13_fits.name) Po 43 [(73, n1, y), (0, n2, n), (0, n3, b), (0, 0, (k : Int)), (0, 0, (a : Int)), (0, 0, (i : Int))] [] (0, 0) g (M') := by
                intro f
                induction f with
                | zero =>
                  intro i M' hi j1 j2
                  refine jx_runL (o := jo_X13) (cs := []) (hf := jx_nh) jo_X13_ok jx_cs0 (jx_HK_nil rfl) (fun p => p == 43 || p == 99) 60 ?_
                  simp only [jw, ju, jx_tg, Int.cast_ofNat_Int, Int.reduceAdd, Int.reduceToNat, Nat.reduceAdd, Nat.reduceMul, Nat.reduceBEq, Nat.reduceLeDiff, Int.reduceLE, Int.reduceLT, Int.reduceEq, Int.reduceNeg, Int.reduceSub, Int.reduceMul, not_false_eq_true, true_and, and_true, and_self, Bool.or_false, Bool.false_or, Bool.or_true, Bool.true_or, List.length_nil, List.length_cons, Nat.zero_le, or_true, true_or, Nat.le_refl, ↓reduceIte, Nat.reduceEqDiff, forall_const, false_and, and_false, false_implies, implies_true, not_true_eq_false, or_false, false_or, ne_eq, jd_X13_fits, jf_X13]
                  refine ⟨by omega, fun c => nxt M' _ j1 (fun t a1 a2 => ?_), fun c => by omega⟩
                  rw [e8, j2 t a1 a2, show i = 8 by omega]
                | succ f ih3 =>
                  intro i M' hi j1 j2
                  have q3 : M' (y + 3) a = M (y + 3) a := mFf_j j1 (by decide)
                  have q4 : M' (y + 4) a = M (y + 4) a := mFf_j j1 (by decide)
                  have q29 : M' (y + 29) a = M (y + 29) a := mFf_j j1 (by decide)
                  have d1 := Int.emod_nonneg (M (y + 29) a + i) (show b ≠ 0 by omega)
                  have d2 := Int.emod_lt_of_pos (M (y + 29) a + i) (show 0 < b by omega)
                  refine jx_runL (o := jo_X13) (cs := []) (hf := jx_nh) jo_X13_ok jx_cs0 (jx_HK_nil rfl) (fun p => p == 43 || p == 99) 60 ?_
                  simp only [jw, ju, jx_tg, Int.cast_ofNat_Int, Int.reduceAdd, Int.reduceToNat, Nat.reduceAdd, Nat.reduceMul, Nat.reduceBEq, Nat.reduceLeDiff, Int.reduceLE, Int.reduceLT, Int.reduceEq, Int.reduceNeg, Int.reduceSub, Int.reduceMul, not_false_eq_true, true_and, and_true, and_self, Bool.or_false, Bool.false_or, Bool.or_true, Bool.true_or, List.length_nil, List.length_cons, Nat.zero_le, or_true, true_or, Nat.le_refl, ↓reduceIte, Nat.reduceEqDiff, forall_const, false_and, and_false, false_implies, implies_true, not_true_eq_false, or_false, false_or, ne_eq, jd_X13_fits, jf_X13, q3, q4, q29]
                  rw [Int.tmod_eq_emod_of_nonneg (show 0 ≤ M (y + 29) a + (i : Int) by omega), mm_bit_ok (show 0 ≤ M (y + 4) a ∧ M (y + 4) a ≤ 255 by omega) (show 0 ≤ (i : Int) ∧ (i : Int) < 8 by omega)]
                  refine ⟨by omega, fun c => by omega, fun c => ⟨by omega, by omega, fun c2 => absurd hk' c2, fun c2 => ⟨by omega, by omega, by omega, by omega, by omega, ih3 (i + 1) _ (by omega) (mFf_u j1) (fun t a1 a2 => ?_)⟩⟩⟩
                  have e9 : mm_f8 (M (y + 4) a) (M (y + 29) a) b t (i + 1) = mm_f8 (M (y + 4) a) (M (y + 29) a) b t i + (if (M (y + 29) a + i) % b = t then mm_bit (M (y + 4) a) i else 0) := rfl
                  rw [e9]
                  by_cases ht : t = (M (y + 29) a + i) % b
                  · rw [if_pos ht.symm, ht, jx_u_eq, j2 _ d1 d2]
                    omega
                  · rw [if_neg (fun z => ht z.symm), jx_u_j _ _ _ _ _ _ ht, j2 t a1 a2]
                    omega
              refine jx_runL (o := jo_X13) (cs := []) (hf := jx_nh) jo_X13_ok jx_cs0 (jx_HK_nil rfl) (fun p => p == 43) 60 ?_
              simp only [jw, ju, jx_tg, Int.cast_ofNat_Int, Int.reduceAdd, Int.reduceToNat, Nat.reduceAdd, Nat.reduceMul, Nat.reduceBEq, Nat.reduceLeDiff, Int.reduceLE, Int.reduceLT, Int.reduceEq, Int.reduceNeg, Int.reduceSub, Int.reduceMul, not_false_eq_true, true_and, and_true, and_self, Bool.or_false, Bool.false_or, Bool.or_true, Bool.true_or, List.length_nil, List.length_cons, Nat.zero_le, or_true, true_or, Nat.le_refl, ↓reduceIte, Nat.reduceEqDiff, forall_const, false_and, and_false, false_implies, implies_true, not_true_eq_false, or_false, false_or, ne_eq, jd_X13_fits, jf_X13]
              refine ⟨by omega, fun c => by omega, fun c => inner 8 0 M' rfl j1 (fun t a1 a2 => ?_)⟩
              rw [j2 t a1 a2]
              show _ = _ + (0 : Int)
              omega
            · have e8 : ∀ t, mm_fb (mY M y) (M (y + 29)) b k t a = 0 := fun t => if_neg hk'
              have q3 : M' (y + 3) a = M (y + 3) a := mFf_j j1 (by decide)
              refine jx_runL (o := jo_X13) (cs := []) (hf := jx_nh) jo_X13_ok jx_cs0 (jx_HK_nil rfl) (fun p => p == 99 || p == 61) 60 ?_
              simp only [jw, ju, jx_tg, Int.cast_ofNat_Int, Int.reduceAdd, Int.reduceToNat, Nat.reduceAdd, Nat.reduceMul, Nat.reduceBEq, Nat.reduceLeDiff, Int.reduceLE, Int.reduceLT, Int.reduceEq, Int.reduceNeg, Int.reduceSub, Int.reduceMul, not_false_eq_true, true_and, and_true, and_self, Bool.or_false, Bool.false_or, Bool.or_true, Bool.true_or, List.length_nil, List.length_cons, Nat.zero_le, or_true, true_or, Nat.le_refl, ↓reduceIte, Nat.reduceEqDiff, forall_const, false_and, and_false, false_implies, implies_true, not_true_eq_false, or_false, false_or, ne_eq, jd_X13_fits, jf_X13, q3]
              refine ⟨by omega, fun c => by omega, fun c => ⟨by omega, by omega, fun c2 => nxt M' _ j1 (fun t a1 a2 => ?_), fun c2 => absurd c2 (by omega)⟩⟩
              rw [e8, j2 t a1 a2]
              omega
        have clear : ∀ (f t : Nat) (M' : jx_M) (P5 : jx_A), (t : Int) + f = b → mFf y M M' → (∀ u : Int, 0 ≤ u → u < t → M' (y + 30) u = 0) → jx_V D l (yX13_fits.cls, cX13_fits, 6, 4, [], 0, 0, 0, yX13_fits.name) Po 11 [(73, n1, y), (0, n2, n), (0, n3, b), (0, 0, (k : Int)), (0, 0, (t : Int)), P5] [] (0, 0) g (M') := by
          intro f
          induction f with
          | zero =>
            intro t M' P5 ht j1 j2
            refine jx_runL (o := jo_X13) (cs := []) (hf := jx_nh) jo_X13_ok jx_cs0 (jx_HK_nil rfl) (fun p => p == 11 || p == 34) 60 ?_
            simp only [jw, ju, jx_tg, Int.cast_ofNat_Int, Int.reduceAdd, Int.reduceToNat, Nat.reduceAdd, Nat.reduceMul, Nat.reduceBEq, Nat.reduceLeDiff, Int.reduceLE, Int.reduceLT, Int.reduceEq, Int.reduceNeg, Int.reduceSub, Int.reduceMul, not_false_eq_true, true_and, and_true, and_self, Bool.or_false, Bool.false_or, Bool.or_true, Bool.true_or, List.length_nil, List.length_cons, Nat.zero_le, or_true, true_or, Nat.le_refl, ↓reduceIte, Nat.reduceEqDiff, forall_const, false_and, and_false, false_implies, implies_true, not_true_eq_false, or_false, false_or, ne_eq, jd_X13_fits, jf_X13]
            exact ⟨by omega, fun c => fill n.toNat 0 M' _ (by omega) j1 (fun u a1 a2 => j2 u a1 (by omega)), fun c => by omega⟩
          | succ f ih2 =>
            intro t M' P5 ht j1 j2
            refine jx_runL (o := jo_X13) (cs := []) (hf := jx_nh) jo_X13_ok jx_cs0 (jx_HK_nil rfl) (fun p => p == 11 || p == 34) 60 ?_
            simp only [jw, ju, jx_tg, Int.cast_ofNat_Int, Int.reduceAdd, Int.reduceToNat, Nat.reduceAdd, Nat.reduceMul, Nat.reduceBEq, Nat.reduceLeDiff, Int.reduceLE, Int.reduceLT, Int.reduceEq, Int.reduceNeg, Int.reduceSub, Int.reduceMul, not_false_eq_true, true_and, and_true, and_self, Bool.or_false, Bool.false_or, Bool.or_true, Bool.true_or, List.length_nil, List.length_cons, Nat.zero_le, or_true, true_or, Nat.le_refl, ↓reduceIte, Nat.reduceEqDiff, forall_const, false_and, and_false, false_implies, implies_true, not_true_eq_false, or_false, false_or, ne_eq, jd_X13_fits, jf_X13]
            refine ⟨by omega, fun c => by omega, fun c => ⟨by omega, ih2 (t + 1) _ _ (by omega) (mFf_u j1) (fun u a1 a2 => ?_)⟩⟩
            by_cases hu' : u = t
            · rw [hu', jx_u_eq]
            · rw [jx_u_j _ _ _ _ _ _ hu']
              exact j2 u a1 (by omega)
        refine jx_runL (o := jo_X13) (cs := []) (hf := jx_nh) jo_X13_ok jx_cs0 (jx_HK_nil rfl) (fun p => p == 11) 60 ?_
        simp only [jw, ju, jx_tg, Int.cast_ofNat_Int, Int.reduceAdd, Int.reduceToNat, Nat.reduceAdd, Nat.reduceMul, Nat.reduceBEq, Nat.reduceLeDiff, Int.reduceLE, Int.reduceLT, Int.reduceEq, Int.reduceNeg, Int.reduceSub, Int.reduceMul, not_false_eq_true, true_and, and_true, and_self, Bool.or_false, Bool.false_or, Bool.or_true, Bool.true_or, List.length_nil, List.length_cons, Nat.zero_le, or_true, true_or, Nat.le_refl, ↓reduceIte, Nat.reduceEqDiff, forall_const, false_and, and_false, false_implies, implies_true, not_true_eq_false, or_false, false_or, ne_eq, jd_X13_fits, jf_X13]
        exact ⟨by omega, fun c => by omega, fun c => clear b.toNat 0 M' _ (by omega) k1 (fun u a1 a2 => by omega)⟩
    refine jx_runL (o := jo_X13) (cs := []) (hf := jx_nh) jo_X13_ok jx_cs0 (jx_HK_nil rfl) (fun p => p == 2) 60 ?_
    simp only [jw, ju, jx_tg, Int.cast_ofNat_Int, Int.reduceAdd, Int.reduceToNat, Nat.reduceAdd, Nat.reduceMul, Nat.reduceBEq, Nat.reduceLeDiff, Int.reduceLE, Int.reduceLT, Int.reduceEq, Int.reduceNeg, Int.reduceSub, Int.reduceMul, not_false_eq_true, true_and, and_true, and_self, Bool.or_false, Bool.false_or, Bool.or_true, Bool.true_or, List.length_nil, List.length_cons, Nat.zero_le, or_true, true_or, Nat.le_refl, ↓reduceIte, Nat.reduceEqDiff, forall_const, false_and, and_false, false_implies, implies_true, not_true_eq_false, or_false, false_or, ne_eq, jd_X13_fits, jf_X13]
    exact outer 6 0 M _ _ rfl (fun _ _ _ => rfl) (fun k' t a1 a2 => by omega)
  · exact hS.elim
