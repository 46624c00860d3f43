/-! the reference: the lowest beat -/
set_option maxRecDepth 100000
/-- the first number from b on, k of them, that has p; d without -/
noncomputable def mm_fst (p : Int → Prop) (d : Int) : Nat → Int → Int
  | 0, _ => d
  | k + 1, b => @ite _ (p b) (Classical.propDecidable _) b (mm_fst p d k (b + 1))
theorem mm_fst_spec (p : Int → Prop) (d : Int) : ∀ (k : Nat) (b : Int), ((∀ c, b ≤ c → c < b + k → ¬ p c) ∧ mm_fst p d k b = d) ∨ (b ≤ mm_fst p d k b ∧ mm_fst p d k b < b + k ∧ p (mm_fst p d k b) ∧ ∀ c, b ≤ c → c < mm_fst p d k b → ¬ p c)
  | 0, b => Or.inl ⟨fun c a z => by omega, rfl⟩
  | k + 1, b => by
    by_cases h : p b
    · have e : mm_fst p d (k + 1) b = b := if_pos h
      rw [e]
      exact Or.inr ⟨by omega, by omega, h, fun c a z => by omega⟩
    · have e : mm_fst p d (k + 1) b = mm_fst p d k (b + 1) := if_neg h
      rw [e]
      rcases mm_fst_spec p d k (b + 1) with ⟨q1, q2⟩ | ⟨q1, q2, q3, q4⟩
      · refine Or.inl ⟨fun c a z => ?_, q2⟩
        by_cases hc : c = b
        · rw [hc]; exact h
        · exact q1 c (by omega) (by omega)
      · refine Or.inr ⟨by omega, by omega, q3, fun c a z => ?_⟩
        by_cases hc : c = b
        · rw [hc]; exact h
        · exact q4 c (by omega) z
/-- units that a kind needs -/
def mm_ub1 (S : jx_M) (k a : Int) : Int := if S 3 a = k then mm_bits (S 4 a) 8 else 0
def mm_ub (S : jx_M) (k : Int) : Int := mm_sum (mm_ub1 S k) (S 0 9).toNat
def mm_U (S : jx_M) (b : Int) : Prop := ∀ k, 0 ≤ k → k < 6 → mm_ub S k ≤ b * S 10 k
def mm_need (S : jx_M) (k : Int) : Int := if mm_ub S k = 0 then 1 else if S 10 k = 0 then 100000 else (mm_ub S k + S 10 k - 1) / S 10 k
def mm_mx1 (f : Int → Int) : Nat → Int
  | 0 => 1
  | k + 1 => max (mm_mx1 f k) (f k)
def mm_byU (S : jx_M) : Int := mm_mx1 (mm_need S) 6
theorem mm_bits_r (p : Int) : ∀ n : Nat, 0 ≤ mm_bits p n ∧ mm_bits p n ≤ n
  | 0 => ⟨Int.le_refl _, Int.le_refl _⟩
  | n + 1 => by
    have ih := mm_bits_r p n
    have := mm_bit_01 p n
    unfold mm_bits
    omega
theorem mm_ub1_r {S : jx_M} {k a : Int} : 0 ≤ mm_ub1 S k a ∧ mm_ub1 S k a ≤ 8 := by
  unfold mm_ub1
  split
  · have := mm_bits_r (S 4 a) 8
    omega
  · omega
theorem mm_ub_r {S : jx_M} {k : Int} (h : 0 ≤ S 0 9 ∧ S 0 9 ≤ 16) : 0 ≤ mm_ub S k ∧ mm_ub S k ≤ 128 := by
  have := mm_sum_r (mm_ub1 S k) 8 (by omega) (S 0 9).toNat (fun v _ _ => mm_ub1_r)
  unfold mm_ub
  omega
theorem mm_need_r {S : jx_M} {k : Int} (h : 0 ≤ S 0 9 ∧ S 0 9 ≤ 16) (hu : 0 ≤ S 10 k ∧ S 10 k ≤ 4) : 1 ≤ mm_need S k ∧ mm_need S k ≤ 100000 := by
  have := mm_ub_r (k := k) h
  unfold mm_need
  split
  · omega
  · split
    · omega
    · rcases (show S 10 k = 1 ∨ S 10 k = 2 ∨ S 10 k = 3 ∨ S 10 k = 4 by omega) with e | e | e | e <;> rw [e] <;> omega
theorem mm_need_le {S : jx_M} {k b : Int} (h : 0 ≤ S 0 9 ∧ S 0 9 ≤ 16) (hu : 0 ≤ S 10 k ∧ S 10 k ≤ 4) (hb : 1 ≤ b ∧ b ≤ 60) : mm_need S k ≤ b ↔ mm_ub S k ≤ b * S 10 k := by
  have hr := mm_ub_r (k := k) h
  unfold mm_need
  split
  · rename_i q
    have := Int.mul_nonneg (show 0 ≤ b by omega) hu.1
    omega
  · split
    · rename_i q1 q2
      rw [q2]
      omega
    · rcases (show S 10 k = 1 ∨ S 10 k = 2 ∨ S 10 k = 3 ∨ S 10 k = 4 by omega) with e | e | e | e <;> rw [e] <;> omega
theorem mm_mx1_r (f : Int → Int) (B : Int) (hB : 1 ≤ B) : ∀ k : Nat, (∀ v : Int, 0 ≤ v → v < k → f v ≤ B) → 1 ≤ mm_mx1 f k ∧ mm_mx1 f k ≤ B
  | 0, _ => ⟨Int.le_refl _, hB⟩
  | k + 1, h => by
    have ih := mm_mx1_r f B hB k (fun v a b => h v a (by omega))
    have := h k (by omega) (by omega)
    unfold mm_mx1
    omega
theorem mm_mx1_ge (f : Int → Int) : ∀ (k : Nat) (v : Int), 0 ≤ v → v < k → f v ≤ mm_mx1 f k
  | 0, v, a, b => by omega
  | k + 1, v, a, b => by
    unfold mm_mx1
    by_cases h : v = k
    · rw [h]; omega
    · have := mm_mx1_ge f k v a (by omega)
      omega
def mm_uok (S : jx_M) : Prop := ∀ k, 0 ≤ k → k < 6 → 0 ≤ S 10 k ∧ S 10 k ≤ 4
theorem mm_byU_le {S : jx_M} {b : Int} (h : 0 ≤ S 0 9 ∧ S 0 9 ≤ 16) (hu : mm_uok S) (hb : 1 ≤ b ∧ b ≤ 60) : mm_byU S ≤ b ↔ mm_U S b := by
  unfold mm_byU
  constructor
  · intro q k k0 k1
    rw [← mm_need_le h (hu k k0 k1) hb]
    have := mm_mx1_ge (mm_need S) 6 k k0 (by omega)
    omega
  · intro q
    exact (mm_mx1_r (mm_need S) b hb.1 6 (fun v a c => (mm_need_le h (hu v a (by omega)) hb).mpr (q v a (by omega)))).2
theorem mm_byU_r {S : jx_M} (h : 0 ≤ S 0 9 ∧ S 0 9 ≤ 16) (hu : mm_uok S) : 1 ≤ mm_byU S ∧ mm_byU S ≤ 100000 :=
  mm_mx1_r (mm_need S) 100000 (by omega) 6 (fun v a c => (mm_need_r h (hu v a (by omega))).2)
def js_X13_byUnits : jx_Sp := fun as g M Po => match as with
  | [(73, _, y)] => ((0 ≤ M y 9 ∧ M y 9 ≤ 16) ∧ mm_up (mY M y) ∧ mm_uok (mY M y)) ∧ Po (0, 0, mm_byU (mY M y)) g M
  | _ => False
def cs_X13_byUnits : jx_Cs := [(580, 1, 0, 0, js_X13_bits)]
theorem hc_X13_byUnits {D : jx_D} {l : Launch} : jx_CsOK D l "LoopLaneModel" 1 cs_X13_byUnits := List.forall_mem_cons.mpr ⟨jc_X13_193 (jt_X13_bits l) (fun as g M Po (h : js_X13_bits as g M Po) => by unfold js_X13_bits at h; split at h <;> first | exact h.elim | exact rfl) (by decide), fun _ h => absurd h List.not_mem_nil⟩
set_option maxHeartbeats 4000000 in
theorem jt_X13_byUnits (l : Launch) : jx_Ct l yX13_byUnits (ws_ yX13_byUnits cX13_byUnits 5 (some .int)) 1 0 0 js_X13_byUnits := by
  refine jx_Ct_c (rc := 0) (by decide) rfl (fun D as g M Po hS => ?_)
  unfold js_X13_byUnits at hS
  split at hS
  · rename_i n1 y
    obtain ⟨⟨h1, h2, h3⟩, hP⟩ := hS
    have h1' : 0 ≤ mY M y 0 9 ∧ mY M y 0 9 ≤ 16 := by rw [mY_0]; exact h1
    refine ⟨Nat.le_of_ble_eq_true rfl, ?_⟩
    have outer : ∀ (f k : Nat) (P3 P4 : jx_A), k + f = 6 → jx_V D l (yX13_byUnits.cls, cX13_byUnits, 5, 0, [], 1, 0, 0, yX13_byUnits.name) Po 4 [(73, n1, y), (0, 0, mm_mx1 (mm_need (mY M y)) k), (0, 0, (k : Int)), P3, P4] [] (0, 0) g (M) := by
      intro f
      induction f with
      | zero =>
        intro k P3 P4 hk
        refine jx_runL (o := jo_X13) (cs := cs_X13_byUnits) (hf := jx_nh) jo_X13_ok hc_X13_byUnits (jx_HK_nil rfl) (fun p => p == 4) 60 ?_
        simp only [jw, ju, jx_tg, Int.cast_ofNat_Int, Int.reduceAdd, Int.reduceToNat, Nat.reduceAdd, Nat.reduceMul, Nat.reduceBEq, Nat.reduceLeDiff, Int.reduceLE, Int.reduceLT, Int.reduceEq, Int.reduceNeg, Int.reduceSub, Int.reduceMul, not_false_eq_true, true_and, and_true, and_self, Bool.or_false, Bool.false_or, Bool.or_true, Bool.true_or, List.length_nil, List.length_cons, Nat.zero_le, or_true, true_or, Nat.le_refl, ↓reduceIte, Nat.reduceEqDiff, forall_const, false_and, and_false, false_implies, implies_true, not_true_eq_false, or_false, false_or, ne_eq, jd_X13_byUnits, jf_X13, js_X13_bits, cs_X13_byUnits, jx_ck_c]
        refine ⟨by omega, fun c => ?_, fun c => by omega⟩
        unfold mm_byU at hP
        rw [show k = 6 by omega]
        exact hP
      | succ f ih =>
        intro k P3 P4 hk
        have hu := h3 k (by omega) (by omega)
        simp only [mY_j] at hu
        have hnr := mm_need_r (k := k) h1' (h3 k (by omega) (by omega))
        have hmr := mm_mx1_r (mm_need (mY M y)) 100000 (by omega) k (fun v a c => (mm_need_r h1' (h3 v a (by omega))).2)
        have hbr := mm_ub_r (k := k) h1'
        have hx := fun P3 P4 => ih (k + 1) P3 P4 (by omega)
        have e1 : mm_mx1 (mm_need (mY M y)) (k + 1) = max (mm_mx1 (mm_need (mY M y)) k) (mm_need (mY M y) k) := rfl
        rw [e1] at hx
        have at97 : ∀ P3 : jx_A, jx_V D l (yX13_byUnits.cls, cX13_byUnits, 5, 0, [], 1, 0, 0, yX13_byUnits.name) Po 99 [(73, n1, y), (0, 0, mm_mx1 (mm_need (mY M y)) k), (0, 0, (k : Int)), P3, (0, 0, mm_need (mY M y) k)] [] (0, 0) g (M) := by
          intro P3
          refine jx_runL (o := jo_X13) (cs := cs_X13_byUnits) (hf := jx_nh) jo_X13_ok hc_X13_byUnits (jx_HK_nil rfl) (fun p => p == 4) 60 ?_
          simp only [jw, ju, jx_tg, Int.cast_ofNat_Int, Int.reduceAdd, Int.reduceToNat, Nat.reduceAdd, Nat.reduceMul, Nat.reduceBEq, Nat.reduceLeDiff, Int.reduceLE, Int.reduceLT, Int.reduceEq, Int.reduceNeg, Int.reduceSub, Int.reduceMul, not_false_eq_true, true_and, and_true, and_self, Bool.or_false, Bool.false_or, Bool.or_true, Bool.true_or, List.length_nil, List.length_cons, Nat.zero_le, or_true, true_or, Nat.le_refl, ↓reduceIte, Nat.reduceEqDiff, forall_const, false_and, and_false, false_implies, implies_true, not_true_eq_false, or_false, false_or, ne_eq, jd_X13_byUnits, jf_X13, js_X13_bits, cs_X13_byUnits, jx_ck_c]
          refine ⟨by omega, fun c => ?_, fun c => ?_⟩
          · rw [show max (mm_mx1 (mm_need (mY M y)) k) (mm_need (mY M y) k) = mm_mx1 (mm_need (mY M y)) k by omega] at hx
            exact hx _ _
          · rw [show max (mm_mx1 (mm_need (mY M y)) k) (mm_need (mY M y) k) = mm_need (mY M y) k by omega] at hx
            exact hx _ _
        have at58 : ∀ P4 : jx_A, jx_V D l (yX13_byUnits.cls, cX13_byUnits, 5, 0, [], 1, 0, 0, yX13_byUnits.name) Po 58 [(73, n1, y), (0, 0, mm_mx1 (mm_need (mY M y)) k), (0, 0, (k : Int)), (0, 0, mm_ub (mY M y) k), P4] [] (0, 0) g (M) := by
          intro P4
          unfold mm_need at at97
          by_cases c1 : mm_ub (mY M y) k = 0
          · rw [if_pos c1] at at97
            refine jx_runL (o := jo_X13) (cs := cs_X13_byUnits) (hf := jx_nh) jo_X13_ok hc_X13_byUnits (jx_HK_nil rfl) (fun p => p == 99) 60 ?_
            simp only [jw, ju, jx_tg, Int.cast_ofNat_Int, Int.reduceAdd, Int.reduceToNat, Nat.reduceAdd, Nat.reduceMul, Nat.reduceBEq, Nat.reduceLeDiff, Int.reduceLE, Int.reduceLT, Int.reduceEq, Int.reduceNeg, Int.reduceSub, Int.reduceMul, not_false_eq_true, true_and, and_true, and_self, Bool.or_false, Bool.false_or, Bool.or_true, Bool.true_or, List.length_nil, List.length_cons, Nat.zero_le, or_true, true_or, Nat.le_refl, ↓reduceIte, Nat.reduceEqDiff, forall_const, false_and, and_false, false_implies, implies_true, not_true_eq_false, or_false, false_or, ne_eq, jd_X13_byUnits, jf_X13, js_X13_bits, cs_X13_byUnits, jx_ck_c]
            exact ⟨by omega, fun c => absurd c1 c, fun c => at97 _⟩
          · rw [if_neg c1] at at97
            by_cases c2 : M (y + 10) k = 0
            · rw [if_pos (show mY M y 10 k = 0 from c2)] at at97
              refine jx_runL (o := jo_X13) (cs := cs_X13_byUnits) (hf := jx_nh) jo_X13_ok hc_X13_byUnits (jx_HK_nil rfl) (fun p => p == 66) 60 ?_
              simp only [jw, ju, jx_tg, Int.cast_ofNat_Int, Int.reduceAdd, Int.reduceToNat, Nat.reduceAdd, Nat.reduceMul, Nat.reduceBEq, Nat.reduceLeDiff, Int.reduceLE, Int.reduceLT, Int.reduceEq, Int.reduceNeg, Int.reduceSub, Int.reduceMul, not_false_eq_true, true_and, and_true, and_self, Bool.or_false, Bool.false_or, Bool.or_true, Bool.true_or, List.length_nil, List.length_cons, Nat.zero_le, or_true, true_or, Nat.le_refl, ↓reduceIte, Nat.reduceEqDiff, forall_const, false_and, and_false, false_implies, implies_true, not_true_eq_false, or_false, false_or, ne_eq, jd_X13_byUnits, jf_X13, js_X13_bits, cs_X13_byUnits, jx_ck_c]
              refine ⟨by omega, fun c => ?_, fun c => by omega⟩
              refine jx_runL (o := jo_X13) (cs := cs_X13_byUnits) (hf := jx_nh) jo_X13_ok hc_X13_byUnits (jx_HK_nil rfl) (fun p => p == 99) 60 ?_
              simp only [jw, ju, jx_tg, Int.cast_ofNat_Int, Int.reduceAdd, Int.reduceToNat, Nat.reduceAdd, Nat.reduceMul, Nat.reduceBEq, Nat.reduceLeDiff, Int.reduceLE, Int.reduceLT, Int.reduceEq, Int.reduceNeg, Int.reduceSub, Int.reduceMul, not_false_eq_true, true_and, and_true, and_self, Bool.or_false, Bool.false_or, Bool.or_true, Bool.true_or, List.length_nil, List.length_cons, Nat.zero_le, or_true, true_or, Nat.le_refl, ↓reduceIte, Nat.reduceEqDiff, forall_const, false_and, and_false, false_implies, implies_true, not_true_eq_false, or_false, false_or, ne_eq, jd_X13_byUnits, jf_X13, js_X13_bits, cs_X13_byUnits, jx_ck_c]
              exact ⟨by omega, by omega, fun c => absurd c2 c, fun c => at97 _⟩
            · rw [if_neg (show ¬ mY M y 10 k = 0 from c2)] at at97
              refine jx_runL (o := jo_X13) (cs := cs_X13_byUnits) (hf := jx_nh) jo_X13_ok hc_X13_byUnits (jx_HK_nil rfl) (fun p => p == 66) 60 ?_
              simp only [jw, ju, jx_tg, Int.cast_ofNat_Int, Int.reduceAdd, Int.reduceToNat, Nat.reduceAdd, Nat.reduceMul, Nat.reduceBEq, Nat.reduceLeDiff, Int.reduceLE, Int.reduceLT, Int.reduceEq, Int.reduceNeg, Int.reduceSub, Int.reduceMul, not_false_eq_true, true_and, and_true, and_self, Bool.or_false, Bool.false_or, Bool.or_true, Bool.true_or, List.length_nil, List.length_cons, Nat.zero_le, or_true, true_or, Nat.le_refl, ↓reduceIte, Nat.reduceEqDiff, forall_const, false_and, and_false, false_implies, implies_true, not_true_eq_false, or_false, false_or, ne_eq, jd_X13_byUnits, jf_X13, js_X13_bits, cs_X13_byUnits, jx_ck_c]
              refine ⟨by omega, fun c => ?_, fun c => by omega⟩
              refine jx_runL (o := jo_X13) (cs := cs_X13_byUnits) (hf := jx_nh) jo_X13_ok hc_X13_byUnits (jx_HK_nil rfl) (fun p => p == 99) 60 ?_
              simp only [jw, ju, jx_tg, Int.cast_ofNat_Int, Int.reduceAdd, Int.reduceToNat, Nat.reduceAdd, Nat.reduceMul, Nat.reduceBEq, Nat.reduceLeDiff, Int.reduceLE, Int.reduceLT, Int.reduceEq, Int.reduceNeg, Int.reduceSub, Int.reduceMul, not_false_eq_true, true_and, and_true, and_self, Bool.or_false, Bool.false_or, Bool.or_true, Bool.true_or, List.length_nil, List.length_cons, Nat.zero_le, or_true, true_or, Nat.le_refl, ↓reduceIte, Nat.reduceEqDiff, forall_const, false_and, and_false, false_implies, implies_true, not_true_eq_false, or_false, false_or, ne_eq, jd_X13_byUnits, jf_X13, js_X13_bits, cs_X13_byUnits, jx_ck_c]
              refine ⟨by omega, by omega, fun c => ⟨by omega, by omega, by omega, ?_⟩, fun c => absurd c (by omega)⟩
              rw [Int.tdiv_eq_ediv_of_nonneg (by omega)]
              exact at97 _
        have inner : ∀ (f a : Nat), (a : Int) + f = M y 9 → jx_V D l (yX13_byUnits.cls, cX13_byUnits, 5, 0, [], 1, 0, 0, yX13_byUnits.name) Po 15 [(73, n1, y), (0, 0, mm_mx1 (mm_need (mY M y)) k), (0, 0, (k : Int)), (0, 0, mm_sum (mm_ub1 (mY M y) k) a), (0, 0, (a : Int))] [] (0, 0) g (M) := by
          intro f
          induction f with
          | zero =>
            intro a ha
            refine jx_runL (o := jo_X13) (cs := cs_X13_byUnits) (hf := jx_nh) jo_X13_ok hc_X13_byUnits (jx_HK_nil rfl) (fun p => p == 15 || p == 58) 60 ?_
            simp only [jw, ju, jx_tg, Int.cast_ofNat_Int, Int.reduceAdd, Int.reduceToNat, Nat.reduceAdd, Nat.reduceMul, Nat.reduceBEq, Nat.reduceLeDiff, Int.reduceLE, Int.reduceLT, Int.reduceEq, Int.reduceNeg, Int.reduceSub, Int.reduceMul, not_false_eq_true, true_and, and_true, and_self, Bool.or_false, Bool.false_or, Bool.or_true, Bool.true_or, List.length_nil, List.length_cons, Nat.zero_le, or_true, true_or, Nat.le_refl, ↓reduceIte, Nat.reduceEqDiff, forall_const, false_and, and_false, false_implies, implies_true, not_true_eq_false, or_false, false_or, ne_eq, jd_X13_byUnits, jf_X13, js_X13_bits, cs_X13_byUnits, jx_ck_c]
            refine ⟨by omega, fun c => ?_, fun c => by omega⟩
            have := at58 (0, 0, (a : Int))
            unfold mm_ub at this
            rw [mY_0, show (M y 9).toNat = a by omega] at this
            exact this
          | succ f ih2 =>
            intro a ha
            have w := h2 a (by omega) (by rw [mY_0]; omega)
            simp only [mY_j] at w
            have hx2 := ih2 (a + 1) (by omega)
            have e2 : mm_sum (mm_ub1 (mY M y) k) (a + 1) = mm_sum (mm_ub1 (mY M y) k) a + (if M (y + 3) a = k then mm_bits (M (y + 4) a) 8 else 0) := rfl
            rw [e2] at hx2
            by_cases c1 : M (y + 3) a = k
            · rw [if_pos c1] at hx2
              refine jx_runL (o := jo_X13) (cs := cs_X13_byUnits) (hf := jx_nh) jo_X13_ok hc_X13_byUnits (jx_HK_nil rfl) (fun p => p == 15 || p == 58) 60 ?_
              simp only [jw, ju, jx_tg, Int.cast_ofNat_Int, Int.reduceAdd, Int.reduceToNat, Nat.reduceAdd, Nat.reduceMul, Nat.reduceBEq, Nat.reduceLeDiff, Int.reduceLE, Int.reduceLT, Int.reduceEq, Int.reduceNeg, Int.reduceSub, Int.reduceMul, not_false_eq_true, true_and, and_true, and_self, Bool.or_false, Bool.false_or, Bool.or_true, Bool.true_or, List.length_nil, List.length_cons, Nat.zero_le, or_true, true_or, Nat.le_refl, ↓reduceIte, Nat.reduceEqDiff, forall_const, false_and, and_false, false_implies, implies_true, not_true_eq_false, or_false, false_or, ne_eq, jd_X13_byUnits, jf_X13, js_X13_bits, cs_X13_byUnits, jx_ck_c]
              exact ⟨by omega, fun c => by omega, fun c => ⟨by omega, by omega, fun c2 => absurd c1 c2, fun c2 => ⟨by omega, by omega, hx2⟩⟩⟩
            · rw [if_neg c1] at hx2
              refine jx_runL (o := jo_X13) (cs := cs_X13_byUnits) (hf := jx_nh) jo_X13_ok hc_X13_byUnits (jx_HK_nil rfl) (fun p => p == 15 || p == 36 || p == 58) 60 ?_
              simp only [jw, ju, jx_tg, Int.cast_ofNat_Int, Int.reduceAdd, Int.reduceToNat, Nat.reduceAdd, Nat.reduceMul, Nat.reduceBEq, Nat.reduceLeDiff, Int.reduceLE, Int.reduceLT, Int.reduceEq, Int.reduceNeg, Int.reduceSub, Int.reduceMul, not_false_eq_true, true_and, and_true, and_self, Bool.or_false, Bool.false_or, Bool.or_true, Bool.true_or, List.length_nil, List.length_cons, Nat.zero_le, or_true, true_or, Nat.le_refl, ↓reduceIte, Nat.reduceEqDiff, forall_const, false_and, and_false, false_implies, implies_true, not_true_eq_false, or_false, false_or, ne_eq, jd_X13_byUnits, jf_X13, js_X13_bits, cs_X13_byUnits, jx_ck_c]
              exact ⟨by omega, fun c => by omega, fun c => ⟨by omega, by omega, fun c2 => hx2, fun c2 => absurd c2 (by omega)⟩⟩
        refine jx_runL (o := jo_X13) (cs := cs_X13_byUnits) (hf := jx_nh) jo_X13_ok hc_X13_byUnits (jx_HK_nil rfl) (fun p => p == 15) 60 ?_
        simp only [jw, ju, jx_tg, Int.cast_ofNat_Int, Int.reduceAdd, Int.reduceToNat, Nat.reduceAdd, Nat.reduceMul, Nat.reduceBEq, Nat.reduceLeDiff, Int.reduceLE, Int.reduceLT, Int.reduceEq, Int.reduceNeg, Int.reduceSub, Int.reduceMul, not_false_eq_true, true_and, and_true, and_self, Bool.or_false, Bool.false_or, Bool.or_true, Bool.true_or, List.length_nil, List.length_cons, Nat.zero_le, or_true, true_or, Nat.le_refl, ↓reduceIte, Nat.reduceEqDiff, forall_const, false_and, and_false, false_implies, implies_true, not_true_eq_false, or_false, false_or, ne_eq, jd_X13_byUnits, jf_X13, js_X13_bits, cs_X13_byUnits, jx_ck_c]
        exact ⟨by omega, fun c => by omega, fun c => inner (M y 9).toNat 0 (by omega)⟩
    refine jx_runL (o := jo_X13) (cs := cs_X13_byUnits) (hf := jx_nh) jo_X13_ok hc_X13_byUnits (jx_HK_nil rfl) (fun p => p == 4) 60 ?_
    simp only [jw, ju, jx_tg, Int.cast_ofNat_Int, Int.reduceAdd, Int.reduceToNat, Nat.reduceAdd, Nat.reduceMul, Nat.reduceBEq, Nat.reduceLeDiff, Int.reduceLE, Int.reduceLT, Int.reduceEq, Int.reduceNeg, Int.reduceSub, Int.reduceMul, not_false_eq_true, true_and, and_true, and_self, Bool.or_false, Bool.false_or, Bool.or_true, Bool.true_or, List.length_nil, List.length_cons, Nat.zero_le, or_true, true_or, Nat.le_refl, ↓reduceIte, Nat.reduceEqDiff, forall_const, false_and, and_false, false_implies, implies_true, not_true_eq_false, or_false, false_or, ne_eq, jd_X13_byUnits, jf_X13, js_X13_bits, cs_X13_byUnits, jx_ck_c]
    exact outer 6 0 _ _ rfl
  · exact hS.elim
def js_X13_byRings : jx_Sp := fun as g M Po => match as with
  | [(73, _, y)] => ((1 ≤ M y 9 ∧ M y 9 ≤ 16) ∧ mm_eok (M y 9) y M) ∧ ∀ M', mPf y M M' → Po (0, 0, mm_fst (fun b => ∃ f, mm_Sol (M y 9) (M y 20) (M (y + 15)) (M (y + 16)) (mm_wr y b M) f) 100000 60 1) g M'
  | _ => False
theorem mPf_0 {y k : Int} {M M' : jx_M} (h : mPf y M M') : M' y k = M y k := h y k (by omega)
theorem mPf_j {y j : Int} {M M' : jx_M} (h : mPf y M M') (hj : j ≠ 28) : M' (y + j) = M (y + j) := by
  funext k
  exact h _ _ (by omega)
theorem mm_eok_P {n y : Int} {M M' : jx_M} (h : mPf y M M') (he : mm_eok n y M) : mm_eok n y M' := by
  unfold mm_eok
  rw [mPf_0 h, mPf_j h (by decide), mPf_j h (by decide), mPf_j h (by decide), mPf_j h (by decide)]
  exact he
theorem mm_wr_P {y b : Int} {M M' : jx_M} (h : mPf y M M') : mm_wr y b M' = mm_wr y b M := by
  funext e
  unfold mm_wr
  rw [mPf_j h (by decide), mPf_j h (by decide)]
def cs_X13_byRings : jx_Cs := [(591, 2, 0, 0, js_X13_rests)]
theorem hc_X13_byRings {D : jx_D} {l : Launch} : jx_CsOK D l "LoopLaneModel" 1 cs_X13_byRings := List.forall_mem_cons.mpr ⟨jc_X13_197 (jt_X13_rests l) (fun as g M Po (h : js_X13_rests as g M Po) => by unfold js_X13_rests at h; split at h <;> first | exact h.elim | exact ⟨_, _, _, rfl, rfl⟩) (by decide), fun _ h => absurd h List.not_mem_nil⟩
set_option maxHeartbeats 4000000 in
theorem jt_X13_byRings (l : Launch) : jx_Ct l yX13_byRings (ws_ yX13_byRings cX13_byRings 2 (some .int)) 1 0 0 js_X13_byRings := by
  refine jx_Ct_c (rc := 0) (by decide) rfl (fun D as g M Po hS => ?_)
  unfold js_X13_byRings at hS
  split at hS
  · rename_i n1 y
    obtain ⟨⟨h1, h2⟩, hP⟩ := hS
    refine ⟨Nat.le_of_ble_eq_true rfl, ?_⟩
    have loop : ∀ (f : Nat) (b : Int) (M' : jx_M), 1 ≤ b → b + f = 61 → mPf y M M' → (∀ M', mPf y M M' → Po (0, 0, mm_fst (fun b => ∃ f, mm_Sol (M y 9) (M y 20) (M (y + 15)) (M (y + 16)) (mm_wr y b M) f) 100000 f b) g M') → jx_V D l (yX13_byRings.cls, cX13_byRings, 2, 0, [], 1, 0, 0, yX13_byRings.name) Po 2 [(73, n1, y), (0, 0, b)] [] (0, 0) g (M') := by
      intro f
      induction f with
      | zero =>
        intro b M' hb hf k1 hE
        refine jx_runL (o := jo_X13) (cs := cs_X13_byRings) (hf := jx_nh) jo_X13_ok hc_X13_byRings (jx_HK_nil rfl) (fun p => p == 2) 60 ?_
        simp only [jw, ju, jx_tg, Int.cast_ofNat_Int, Int.reduceAdd, Int.reduceToNat, Nat.reduceAdd, Nat.reduceMul, Nat.reduceBEq, Nat.reduceLeDiff, Int.reduceLE, Int.reduceLT, Int.reduceEq, Int.reduceNeg, Int.reduceSub, Int.reduceMul, not_false_eq_true, true_and, and_true, and_self, Bool.or_false, Bool.false_or, Bool.or_true, Bool.true_or, List.length_nil, List.length_cons, Nat.zero_le, or_true, true_or, Nat.le_refl, ↓reduceIte, Nat.reduceEqDiff, forall_const, false_and, and_false, false_implies, implies_true, not_true_eq_false, or_false, false_or, ne_eq, jd_X13_byRings, jf_X13, js_X13_rests, cs_X13_byRings, jx_ck_c]
        exact ⟨by omega, fun c => hE M' k1, fun c => by omega⟩
      | succ f ih =>
        intro b M' hb hf k1 hE
        have e9 := mPf_0 (k := 9) k1
        have e20 := mPf_0 (k := 20) k1
        refine jx_runL (o := jo_X13) (cs := cs_X13_byRings) (hf := jx_nh) jo_X13_ok hc_X13_byRings (jx_HK_nil rfl) (fun p => p == 2) 60 ?_
        simp only [jw, ju, jx_tg, Int.cast_ofNat_Int, Int.reduceAdd, Int.reduceToNat, Nat.reduceAdd, Nat.reduceMul, Nat.reduceBEq, Nat.reduceLeDiff, Int.reduceLE, Int.reduceLT, Int.reduceEq, Int.reduceNeg, Int.reduceSub, Int.reduceMul, not_false_eq_true, true_and, and_true, and_self, Bool.or_false, Bool.false_or, Bool.or_true, Bool.true_or, List.length_nil, List.length_cons, Nat.zero_le, or_true, true_or, Nat.le_refl, ↓reduceIte, Nat.reduceEqDiff, forall_const, false_and, and_false, false_implies, implies_true, not_true_eq_false, or_false, false_or, ne_eq, jd_X13_byRings, jf_X13, js_X13_rests, cs_X13_byRings, jx_ck_c]
        rw [e9, e20, mPf_j k1 (show (15 : Int) ≠ 28 by decide), mPf_j k1 (show (16 : Int) ≠ 28 by decide), mm_wr_P k1]
        refine ⟨by omega, fun c => by omega, fun c => ⟨⟨h1, by omega, by have := mm_eok_P k1 h2; exact this⟩, fun r M2 j1 j2 => ?_⟩⟩
        have k2 : mPf y M M2 := fun z i q => (j2 z i q).trans (k1 z i q)
        rcases j1 with ⟨rfl, j1⟩ | ⟨rfl, j1⟩
        · refine ⟨by omega, fun c => by omega, fun c => ?_⟩
          have := hE M2 k2
          unfold mm_fst at this
          rw [if_pos ⟨_, j1.1⟩] at this
          exact this
        · refine ⟨by omega, fun c => ih (b + 1) M2 (by omega) (by omega) k2 (fun M3 k3 => ?_), fun c => by omega⟩
          have := hE M3 k3
          unfold mm_fst at this
          rw [if_neg j1] at this
          exact this
    refine jx_runL (o := jo_X13) (cs := cs_X13_byRings) (hf := jx_nh) jo_X13_ok hc_X13_byRings (jx_HK_nil rfl) (fun p => p == 2) 60 ?_
    simp only [jw, ju, jx_tg, Int.cast_ofNat_Int, Int.reduceAdd, Int.reduceToNat, Nat.reduceAdd, Nat.reduceMul, Nat.reduceBEq, Nat.reduceLeDiff, Int.reduceLE, Int.reduceLT, Int.reduceEq, Int.reduceNeg, Int.reduceSub, Int.reduceMul, not_false_eq_true, true_and, and_true, and_self, Bool.or_false, Bool.false_or, Bool.or_true, Bool.true_or, List.length_nil, List.length_cons, Nat.zero_le, or_true, true_or, Nat.le_refl, ↓reduceIte, Nat.reduceEqDiff, forall_const, false_and, and_false, false_implies, implies_true, not_true_eq_false, or_false, false_or, ne_eq, jd_X13_byRings, jf_X13, js_X13_rests, cs_X13_byRings, jx_ck_c]
    exact loop 60 1 M (by omega) (by omega) (fun _ _ _ => rfl) hP
  · exact hS.elim
