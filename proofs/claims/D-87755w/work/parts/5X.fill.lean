/-! LoopLane: fill -/
set_option maxRecDepth 100000
theorem mm_f8_s {p tk b t : Int} {i : Nat} : mm_f8 p tk b t (i + 1) = mm_f8 p tk b t i + (if (tk + i) % b = t then mm_bit p i else 0) := rfl
def js_X0_fill : jx_Sp := fun as g M Po => match as with
  | [(60, _, x), (0, _, a), (0, _, y)] => ∃ S, (0 ≤ x ∧ rBd x S g M ∧ mB S ∧ (0 ≤ a ∧ a < S 0 9) ∧ (y = 1 ∨ y = -1) ∧ (1 ≤ M x 30 ∧ M x 30 ≤ 60) ∧ (0 ≤ M (x + 33) a ∧ M (x + 33) a < M x 30) ∧ ∀ j, 0 ≤ j → j < 360 → -1000 ≤ M (x + 35) j ∧ M (x + 35) j ≤ 1000) ∧
      ∀ (r : Int) (M' : jx_M), (∀ z k : Int, z ≠ x + 35 → M' z k = M z k) → (∀ k t, 0 ≤ k → k < 6 → 0 ≤ t → t < 60 → M' (x + 35) (60 * k + t) = M (x + 35) (60 * k + t) + y * mm_fb S (M (x + 33)) (M x 30) k t a) → (r = 0 ∨ r = 1) → (y = 1 → (r = 1 ↔ ∀ t, 0 ≤ t → t < M x 30 → 0 < mm_f8 (S 4 a) (M (x + 33) a) (M x 30) t 8 → M' (x + 35) (60 * S 3 a + t) ≤ S 10 (S 3 a))) → Po (0, 0, r) g M'
  | _ => False
set_option maxHeartbeats 4000000 in
theorem jt_X0_fill (l : Launch) : jx_Ct l yX0_fill (ws_ yX0_fill cX0_fill 7 (some .boolean)) 2 0 0 js_X0_fill := by
  refine jx_Ct_c (rc := 4) (by decide) rfl (fun D as g M Po hS => ?_)
  unfold js_X0_fill at hS
  split at hS
  · rename_i n1 x n2 a n3 y
    obtain ⟨S, ⟨hx, hR, hB, ha, hy, hb, hT, hf⟩, hP⟩ := hS
    have h9 := hB.1
    have hA := hR.2.2.1 a ha.1 ha.2
    have k3 := rA_k3 hA hx ha.1
    have wa := hB.2.2.1 a ha.1 ha.2
    obtain ⟨b, hbb⟩ : ∃ b, b = M x 30 := ⟨_, rfl⟩
    obtain ⟨T, hTT⟩ : ∃ T, T = M (x + 33) a := ⟨_, rfl⟩
    obtain ⟨u, huu⟩ : ∃ u, u = S 3 a := ⟨_, rfl⟩
    rw [← hbb] at hb hT hP
    rw [← hTT] at hT hP
    rw [← huu] at hP wa
    have uk := hR.2.2.2.1 u (by omega) (by omega)
    have ur := hB.2.2.2.2.2 u (by omega) (by omega)
    refine ⟨Nat.le_of_ble_eq_true rfl, ?_⟩
    have loop : ∀ (f i : Nat) (r : Int) (M' : jx_M) (P6 : jx_A), i + f = 8 → (∀ z k : Int, z ≠ x + 35 → M' z k = M z k) → (∀ k t, 0 ≤ k → k < 6 → 0 ≤ t → t < 60 → M' (x + 35) (60 * k + t) = M (x + 35) (60 * k + t) + y * (if u = k then mm_f8 (S 4 a) T b t i else 0)) → (r = 0 ∨ r = 1) → (y = 1 → (r = 1 ↔ ∀ t, 0 ≤ t → t < b → 0 < mm_f8 (S 4 a) T b t i → M' (x + 35) (60 * u + t) ≤ S 10 u)) → jx_V D l (yX0_fill.cls, cX0_fill, 7, 4, [], 2, 0, 0, yX0_fill.name) Po 16 [(60, n1, x), (0, n2, a), (0, n3, y), (0, 0, r), (0, 0, u), (0, 0, (i : Int)), P6] [] (0, 0) g (M') := by
      intro f
      induction f with
      | zero =>
        intro i r M' P6 hi k1 k2 k4 k5
        have i8 : i = 8 := by omega
        rw [i8] at k2 k5
        refine jx_runL (o := jo_X0) (cs := []) (hf := jx_nh) jo_X0_ok jx_cs0 (jx_HK_nil rfl) (fun p => p == 23) 20 ?_
        simp only [jw, ju, jx_tg, Int.cast_ofNat_Int, Int.reduceAdd, Int.reduceToNat, Nat.reduceAdd, Nat.reduceMul, Nat.reduceBEq, Nat.reduceLeDiff, Int.reduceLE, Int.reduceLT, Int.reduceEq, Int.reduceNeg, Int.reduceSub, Int.reduceMul, not_false_eq_true, true_and, and_true, and_self, Bool.or_false, Bool.false_or, Bool.or_true, Bool.true_or, List.length_nil, List.length_cons, Nat.zero_le, or_true, true_or, Nat.le_refl, ↓reduceIte, Nat.reduceEqDiff, forall_const, false_and, and_false, false_implies, implies_true, not_true_eq_false, or_false, false_or, ne_eq, jd_X0_fill, jf_X0]
        refine ⟨by omega, fun c => ⟨k4, hP r M' k1 (fun k t q1 q2 q3 q4 => ?_) k4 k5⟩, fun c => by omega⟩
        rw [k2 k t q1 q2 q3 q4]
        unfold mm_fb
        rw [huu, hTT]
      | succ f ih =>
        intro i r M' P6 hi k1 k2 k4 k5
        have R' : rBd x S g M' := rBd_c h9.2 hR (fun z k w => k1 z k (by unfold qBd at w; omega))
        have hA' := R'.2.2.1 a ha.1 ha.2
        have k3' := rA_k3 hA' hx ha.1
        have bo := mm_bit_ok (p := S 4 a) (k := i) (by omega) (by omega)
        have b01 := mm_bit_01 (S 4 a) i
        have e30 : M' x 30 = b := by rw [k1 _ _ (by omega), hbb]
        have e33 : M' (x + 33) a = T := by rw [k1 _ _ (by omega), hTT]
        have u' := R'.2.2.2.1 u (by omega) (by omega)
        have md := Int.tmod_eq_emod_of_nonneg (b := b) (show 0 ≤ T + i by omega)
        have mr : 0 ≤ (T + i) % b ∧ (T + i) % b < b := ⟨Int.emod_nonneg _ (by omega), Int.emod_lt_of_pos _ (by omega)⟩
        obtain ⟨w, hw⟩ : ∃ w, w = (T + i) % b := ⟨_, rfl⟩
        rw [← hw] at md mr
        have fs : ∀ t, mm_f8 (S 4 a) T b t (i + 1) = mm_f8 (S 4 a) T b t i + (if w = t then mm_bit (S 4 a) i else 0) := fun t => by rw [mm_f8_s, ← hw]
        have fr : ∀ t, 0 ≤ mm_f8 (S 4 a) T b t i ∧ mm_f8 (S 4 a) T b t i ≤ i := fun t => mm_f8_r (S 4 a) T b t i
        have nx : ∀ (r : Int) (M'' : jx_M) (P6 : jx_A), (∀ z k : Int, z ≠ x + 35 → M'' z k = M z k) → (∀ k t, 0 ≤ k → k < 6 → 0 ≤ t → t < 60 → M'' (x + 35) (60 * k + t) = M (x + 35) (60 * k + t) + y * (if u = k then mm_f8 (S 4 a) T b t (i + 1) else 0)) → (r = 0 ∨ r = 1) → (y = 1 → (r = 1 ↔ ∀ t, 0 ≤ t → t < b → 0 < mm_f8 (S 4 a) T b t (i + 1) → M'' (x + 35) (60 * u + t) ≤ S 10 u)) → jx_V D l (yX0_fill.cls, cX0_fill, 7, 4, [], 2, 0, 0, yX0_fill.name) Po 101 [(60, n1, x), (0, n2, a), (0, n3, y), (0, 0, r), (0, 0, u), (0, 0, (i : Int)), P6] [] (0, 0) g (M'') := by
          intro r M'' P6 j1 j2 j3 j4
          refine jx_runL (o := jo_X0) (cs := []) (hf := jx_nh) jo_X0_ok jx_cs0 (jx_HK_nil rfl) (fun p => p == 16) 20 ?_
          simp only [jw, ju, jx_tg, Int.cast_ofNat_Int, Int.reduceAdd, Int.reduceToNat, Nat.reduceAdd, Nat.reduceMul, Nat.reduceBEq, Nat.reduceLeDiff, Int.reduceLE, Int.reduceLT, Int.reduceEq, Int.reduceNeg, Int.reduceSub, Int.reduceMul, not_false_eq_true, true_and, and_true, and_self, Bool.or_false, Bool.false_or, Bool.or_true, Bool.true_or, List.length_nil, List.length_cons, Nat.zero_le, or_true, true_or, Nat.le_refl, ↓reduceIte, Nat.reduceEqDiff, forall_const, false_and, and_false, false_implies, implies_true, not_true_eq_false, or_false, false_or, ne_eq, jd_X0_fill, jf_X0]
          have := ih (i + 1) r M'' P6 (by omega) j1 j2 j3 j4
          rw [show (((i + 1 : Nat) : Int)) = (i : Int) + 1 by omega] at this
          exact this
        by_cases cb : mm_bit (S 4 a) i = 1
        · -- the cell
          have cell := k2 u w (by omega) (by omega) (by omega) (by omega)
          rw [if_pos rfl] at cell
          have cr := hf (60 * u + w) (by omega) (by omega)
          have frw := fr w
          obtain ⟨c0, hc0⟩ : ∃ c0, c0 = M' (x + 35) (60 * u + w) := ⟨_, rfl⟩
          rw [← hc0] at cell
          have c0r : -1010 ≤ c0 ∧ c0 ≤ 1010 := by rcases hy with rfl | rfl <;> omega
          obtain ⟨M'', hM''⟩ : ∃ q, q = jx_u M' (x + 35) (60 * u + w) (c0 + y) := ⟨_, rfl⟩
          have j1 : ∀ z k : Int, z ≠ x + 35 → M'' z k = M z k := fun z k hz => by rw [hM'', jx_u_a _ _ _ _ _ _ hz]; exact k1 z k hz
          have jcl : M'' (x + 35) (60 * u + w) = c0 + y := by rw [hM'', jx_u_eq]
          have jo : ∀ q, q ≠ 60 * u + w → M'' (x + 35) q = M' (x + 35) q := fun q hq => by rw [hM'', jx_u_j _ _ _ _ _ _ hq]
          have j2 : ∀ k t, 0 ≤ k → k < 6 → 0 ≤ t → t < 60 → M'' (x + 35) (60 * k + t) = M (x + 35) (60 * k + t) + y * (if u = k then mm_f8 (S 4 a) T b t (i + 1) else 0) := fun k t q1 q2 q3 q4 => by
            have old := k2 k t q1 q2 q3 q4
            by_cases ck : u = k
            · by_cases ct : w = t
              · rw [← ck, ← ct, jcl, if_pos rfl, fs, if_pos rfl, cb, cell, Int.mul_add]
                omega
              · rw [jo _ (by omega), old, if_pos ck, if_pos ck, fs, if_neg ct, Int.add_zero]
            · rw [jo _ (by omega), old, if_neg ck, if_neg ck]
          have j4 : ∀ r2 : Int, (r2 = 1 ↔ (r = 1 ∧ c0 + y ≤ S 10 u)) → y = 1 → (r2 = 1 ↔ ∀ t, 0 ≤ t → t < b → 0 < mm_f8 (S 4 a) T b t (i + 1) → M'' (x + 35) (60 * u + t) ≤ S 10 u) := fun r2 hr2 y1 => by
            rw [hr2, k5 y1]
            constructor
            · rintro ⟨h1, h2⟩ t t0 t1 tp
              by_cases ct : w = t
              · rw [← ct, jcl]; exact h2
              · rw [jo _ (by omega)]
                refine h1 t t0 t1 ?_
                rw [fs, if_neg ct] at tp
                omega
            · intro h
              have hw1 := h w (by omega) (by omega) (by rw [fs, if_pos rfl, cb]; have := fr w; omega)
              rw [jcl] at hw1
              refine ⟨fun t t0 t1 tp => ?_, hw1⟩
              by_cases ct : w = t
              · rw [← ct, ← hc0]; omega
              · have := h t t0 t1 (by rw [fs, if_neg ct]; omega)
                rw [jo _ (by omega)] at this
                exact this
          have m35 : M'' (x + 35) (60 * u + w) = c0 + y := jcl
          have u'' : M'' (x + 21) u = S 10 u := by rw [j1 _ _ (by omega)]; exact uk
          refine jx_runL (o := jo_X0) (cs := []) (hf := jx_nh) jo_X0_ok jx_cs0 (jx_HK_nil rfl) (fun p => p == 74 || p == 101) 60 ?_
          simp only [jw, ju, jx_tg, Int.cast_ofNat_Int, Int.reduceAdd, Int.reduceToNat, Nat.reduceAdd, Nat.reduceMul, Nat.reduceBEq, Nat.reduceLeDiff, Int.reduceLE, Int.reduceLT, Int.reduceEq, Int.reduceNeg, Int.reduceSub, Int.reduceMul, not_false_eq_true, true_and, and_true, and_self, Bool.or_false, Bool.false_or, Bool.or_true, Bool.true_or, List.length_nil, List.length_cons, Nat.zero_le, or_true, true_or, Nat.le_refl, ↓reduceIte, Nat.reduceEqDiff, forall_const, false_and, and_false, false_implies, implies_true, not_true_eq_false, or_false, false_or, ne_eq, jd_X0_fill, jf_X0, rA_pat hA', bo, e30, e33, md, ← hc0]
          refine ⟨by omega, fun c => by omega, fun c => ⟨by omega, k3', by omega, fun c2 => absurd cb c2, fun c2 => ⟨by omega, ⟨by omega, by omega, by omega⟩, by omega, by omega, ?_⟩⟩⟩
          rw [← hM'']
          refine jx_runL (o := jo_X0) (cs := []) (hf := jx_nh) jo_X0_ok jx_cs0 (jx_HK_nil rfl) (fun p => p == 101) 40 ?_
          simp only [jw, ju, jx_tg, Int.cast_ofNat_Int, Int.reduceAdd, Int.reduceToNat, Nat.reduceAdd, Nat.reduceMul, Nat.reduceBEq, Nat.reduceLeDiff, Int.reduceLE, Int.reduceLT, Int.reduceEq, Int.reduceNeg, Int.reduceSub, Int.reduceMul, not_false_eq_true, true_and, and_true, and_self, Bool.or_false, Bool.false_or, Bool.or_true, Bool.true_or, List.length_nil, List.length_cons, Nat.zero_le, or_true, true_or, Nat.le_refl, ↓reduceIte, Nat.reduceEqDiff, forall_const, false_and, and_false, false_implies, implies_true, not_true_eq_false, or_false, false_or, ne_eq, jd_X0_fill, jf_X0, m35, u'']
          refine ⟨by omega, fun c3 => nx 0 M'' _ j1 j2 (.inl rfl) (j4 0 ⟨fun z => absurd z (by decide), fun z => by omega⟩), fun c3 => ⟨by omega, by omega, by omega, fun c4 => nx 0 M'' _ j1 j2 (.inl rfl) (j4 0 ⟨fun z => absurd z (by decide), fun z => by omega⟩), fun c4 => nx 1 M'' _ j1 j2 (.inr rfl) (j4 1 ⟨fun _ => ⟨by omega, by omega⟩, fun _ => rfl⟩)⟩⟩
        · have c0 : mm_bit (S 4 a) i = 0 := by omega
          have fs0 : ∀ t, mm_f8 (S 4 a) T b t (i + 1) = mm_f8 (S 4 a) T b t i := fun t => by rw [fs, c0, ite_self, Int.add_zero]
          refine jx_runL (o := jo_X0) (cs := []) (hf := jx_nh) jo_X0_ok jx_cs0 (jx_HK_nil rfl) (fun p => p == 41 || p == 101) 60 ?_
          simp only [jw, ju, jx_tg, Int.cast_ofNat_Int, Int.reduceAdd, Int.reduceToNat, Nat.reduceAdd, Nat.reduceMul, Nat.reduceBEq, Nat.reduceLeDiff, Int.reduceLE, Int.reduceLT, Int.reduceEq, Int.reduceNeg, Int.reduceSub, Int.reduceMul, not_false_eq_true, true_and, and_true, and_self, Bool.or_false, Bool.false_or, Bool.or_true, Bool.true_or, List.length_nil, List.length_cons, Nat.zero_le, or_true, true_or, Nat.le_refl, ↓reduceIte, Nat.reduceEqDiff, forall_const, false_and, and_false, false_implies, implies_true, not_true_eq_false, or_false, false_or, ne_eq, jd_X0_fill, jf_X0, rA_pat hA', bo]
          exact ⟨by omega, fun c => by omega, fun c => ⟨by omega, k3', by omega, fun c2 => nx r M' P6 k1 (fun k t q1 q2 q3 q4 => by rw [fs0]; exact k2 k t q1 q2 q3 q4) k4 (fun y1 => by simp only [fs0]; exact k5 y1), fun c2 => by omega⟩⟩
    refine jx_runL (o := jo_X0) (cs := []) (hf := jx_nh) jo_X0_ok jx_cs0 (jx_HK_nil rfl) (fun p => p == 16) 20 ?_
    simp only [jw, ju, jx_tg, Int.cast_ofNat_Int, Int.reduceAdd, Int.reduceToNat, Nat.reduceAdd, Nat.reduceMul, Nat.reduceBEq, Nat.reduceLeDiff, Int.reduceLE, Int.reduceLT, Int.reduceEq, Int.reduceNeg, Int.reduceSub, Int.reduceMul, not_false_eq_true, true_and, and_true, and_self, Bool.or_false, Bool.false_or, Bool.or_true, Bool.true_or, List.length_nil, List.length_cons, Nat.zero_le, or_true, true_or, Nat.le_refl, ↓reduceIte, Nat.reduceEqDiff, forall_const, false_and, and_false, false_implies, implies_true, not_true_eq_false, or_false, false_or, ne_eq, jd_X0_fill, jf_X0, rA_unit hA, ← huu]
    refine ⟨by omega, k3, loop 8 0 1 M _ rfl (fun _ _ _ => rfl) (fun k t _ _ _ _ => ?_) (.inr rfl) (fun _ => ⟨fun _ t t0 t1 tp => ?_, fun _ => rfl⟩)⟩
    · rw [show mm_f8 (S 4 a) T b t 0 = 0 from rfl, ite_self, Int.mul_zero, Int.add_zero]
    · have : (0 : Int) < 0 := tp
      omega
  · exact hS.elim
