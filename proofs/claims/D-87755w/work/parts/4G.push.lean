/-! the reference: rests, holds -/
set_option maxRecDepth 100000
/-- only what is pushed changes -/
def mPf (y : Int) (M M' : jx_M) : Prop := ∀ z i : Int, z ≠ y + 28 → M' z i = M z i
theorem mPf_u {y i v : Int} {M M' : jx_M} (h : mPf y M M') : mPf y M (jx_u M' (y + 28) i v) := fun z k q => by
  rw [jx_u_a _ _ _ _ _ _ q]
  exact h z k q
/-- edges as they must be -/
def mm_eok (n : Int) (y : Int) (M : jx_M) : Prop := (0 ≤ M y 20 ∧ M y 20 ≤ 704) ∧ ∀ e, 0 ≤ e → e < M y 20 → (0 ≤ M (y + 15) e ∧ M (y + 15) e < n) ∧ (0 ≤ M (y + 16) e ∧ M (y + 16) e < n) ∧ (-50 ≤ M (y + 17) e ∧ M (y + 17) e ≤ 50) ∧ (0 ≤ M (y + 18) e ∧ M (y + 18) e ≤ 4)
def mm_wr (y b : Int) (M : jx_M) (e : Int) : Int := M (y + 17) e - b * M (y + 18) e
theorem mm_bd {b d : Int} (hb : 0 ≤ b ∧ b ≤ 60) (hd : 0 ≤ d ∧ d ≤ 4) : 0 ≤ b * d ∧ b * d ≤ 240 := by
  rcases (show d = 0 ∨ d = 1 ∨ d = 2 ∨ d = 3 ∨ d = 4 by omega) with rfl | rfl | rfl | rfl | rfl <;> omega
def js_X13_rests : jx_Sp := fun as g M Po => match as with
  | [(73, _, y), (0, _, b)] => ((1 ≤ M y 9 ∧ M y 9 ≤ 16) ∧ (1 ≤ b ∧ b ≤ 60) ∧ mm_eok (M y 9) y M) ∧ ∀ (r : Int) (M' : jx_M), (r = 1 ∧ mm_Least (M y 9) (M y 20) (M (y + 15)) (M (y + 16)) (mm_wr y b M) (M' (y + 28)) ∨ r = 0 ∧ ¬ ∃ f, mm_Sol (M y 9) (M y 20) (M (y + 15)) (M (y + 16)) (mm_wr y b M) f) → mPf y M M' → Po (0, 0, r) g M'
  | _ => False
set_option maxHeartbeats 4000000 in
theorem jt_X13_rests (l : Launch) : jx_Ct l yX13_rests (ws_ yX13_rests cX13_rests 6 (some .boolean)) 0 0 0 js_X13_rests := by
  refine jx_Ct_c (rc := 4) (by decide) rfl (fun D as g M Po hS => ?_)
  unfold js_X13_rests at hS
  split at hS
  · rename_i n1 y n2 b
    obtain ⟨⟨h1, h2, h3, h4⟩, hP⟩ := hS
    refine ⟨Nat.le_of_ble_eq_true rfl, ?_⟩
    have hends : mm_ends (M y 20) (M (y + 15)) (M (y + 16)) := fun e a c => ⟨(h4 e a c).1.1, (h4 e a c).2.1.1⟩
    have inner : ∀ (r : Nat) (P : Int → Int), (r : Int) ≤ M y 9 → (∀ (M' : jx_M) (P4 P5 : jx_A), mPf y M M' → mm_ps (M y 9) (M y 20) (M (y + 15)) (M (y + 16)) (mm_wr y b M) P (M' (y + 28)) (M y 20) → (∀ v, 0 ≤ v → v < M y 9 → 0 ≤ M' (y + 28) v ∧ M' (y + 28) v ≤ 36000 * (r + 1)) →
          ((∀ v, 0 ≤ v → v < M y 9 → M' (y + 28) v = P v) → jx_V D l (yX13_rests.cls, cX13_rests, 6, 4, [], 0, 0, 0, yX13_rests.name) Po 121 [(73, n1, y), (0, n2, b), (0, 0, (r : Int)), (0, 0, 0), P4, P5] [] (0, 0) g (M')) ∧ ((∃ v, 0 ≤ v ∧ v < M y 9 ∧ M' (y + 28) v ≠ P v) → jx_V D l (yX13_rests.cls, cX13_rests, 6, 4, [], 0, 0, 0, yX13_rests.name) Po 121 [(73, n1, y), (0, n2, b), (0, 0, (r : Int)), (0, 0, 1), P4, P5] [] (0, 0) g (M'))) →
        ∀ (f e : Nat) (mv : Int) (M' : jx_M) (P5 : jx_A), (e : Int) + f = M y 20 → mPf y M M' → mm_ps (M y 9) (M y 20) (M (y + 15)) (M (y + 16)) (mm_wr y b M) P (M' (y + 28)) e → (∀ v, 0 ≤ v → v < M y 9 → 0 ≤ M' (y + 28) v ∧ M' (y + 28) v ≤ 36000 * r + 50 * e) → ((mv = 0 ∧ ∀ v, 0 ≤ v → v < M y 9 → M' (y + 28) v = P v) ∨ (mv = 1 ∧ ∃ v, 0 ≤ v ∧ v < M y 9 ∧ M' (y + 28) v ≠ P v)) →
        jx_V D l (yX13_rests.cls, cX13_rests, 6, 4, [], 0, 0, 0, yX13_rests.name) Po 38 [(73, n1, y), (0, n2, b), (0, 0, (r : Int)), (0, 0, mv), (0, 0, (e : Int)), P5] [] (0, 0) g (M') := by
      intro r P hr hE f
      induction f with
      | zero =>
        intro e mv M' P5 he k1 k2 k3 k4
        have q20 : M' y 20 = M y 20 := k1 y 20 (by omega)
        obtain ⟨g1, g2⟩ := hE M' (0, 0, (e : Int)) P5 k1 (by rw [show M y 20 = e by omega] at k2 ⊢; exact k2) (fun v a c => by have := k3 v a c; omega)
        refine jx_runL (o := jo_X13) (cs := []) (hf := jx_nh) jo_X13_ok jx_cs0 (jx_HK_nil rfl) (fun p => p == 38 || p == 121) 60 ?_
        simp only [jw, ju, jx_tg, Int.cast_ofNat_Int, Int.reduceAdd, Int.reduceToNat, Nat.reduceAdd, Nat.reduceMul, Nat.reduceBEq, Nat.reduceLeDiff, Int.reduceLE, Int.reduceLT, Int.reduceEq, Int.reduceNeg, Int.reduceSub, Int.reduceMul, not_false_eq_true, true_and, and_true, and_self, Bool.or_false, Bool.false_or, Bool.or_true, Bool.true_or, List.length_nil, List.length_cons, Nat.zero_le, or_true, true_or, Nat.le_refl, ↓reduceIte, Nat.reduceEqDiff, forall_const, false_and, and_false, false_implies, implies_true, not_true_eq_false, or_false, false_or, ne_eq, jd_X13_rests, jf_X13, q20]
        refine ⟨by omega, fun c => ?_, fun c => by omega⟩
        rcases k4 with ⟨rfl, k4⟩ | ⟨rfl, k4⟩
        · exact g1 k4
        · exact g2 k4
      | succ f ih =>
        intro e mv M' P5 he k1 k2 k3 k4
        have q20 : M' y 20 = M y 20 := k1 y 20 (by omega)
        have q15 : M' (y + 15) e = M (y + 15) e := k1 _ _ (by omega)
        have q16 : M' (y + 16) e = M (y + 16) e := k1 _ _ (by omega)
        have q17 : M' (y + 17) e = M (y + 17) e := k1 _ _ (by omega)
        have q18 : M' (y + 18) e = M (y + 18) e := k1 _ _ (by omega)
        obtain ⟨b1, b2, b3, b4⟩ := h4 e (by omega) (by omega)
        have bd := mm_bd (b := b) (by omega) b4
        have p1 := k3 _ b1.1 b1.2
        have p2 := k3 _ b2.1 b2.2
        have hx := ih (e + 1)
        have ew : mm_wr y b M e = M (y + 17) e - b * M (y + 18) e := rfl
        refine jx_runL (o := jo_X13) (cs := []) (hf := jx_nh) jo_X13_ok jx_cs0 (jx_HK_nil rfl) (fun p => p == 38 || p == 99) 60 ?_
        simp only [jw, ju, jx_tg, Int.cast_ofNat_Int, Int.reduceAdd, Int.reduceToNat, Nat.reduceAdd, Nat.reduceMul, Nat.reduceBEq, Nat.reduceLeDiff, Int.reduceLE, Int.reduceLT, Int.reduceEq, Int.reduceNeg, Int.reduceSub, Int.reduceMul, not_false_eq_true, true_and, and_true, and_self, Bool.or_false, Bool.false_or, Bool.or_true, Bool.true_or, List.length_nil, List.length_cons, Nat.zero_le, or_true, true_or, Nat.le_refl, ↓reduceIte, Nat.reduceEqDiff, forall_const, false_and, and_false, false_implies, implies_true, not_true_eq_false, or_false, false_or, ne_eq, jd_X13_rests, jf_X13, q20, q15, q16, q17, q18]
        refine ⟨by omega, fun c => by omega, fun c => ⟨by omega, by omega, by omega, by omega, by omega, by omega, by omega, fun c2 => ?_, fun c2 => ?_⟩⟩
        · refine jx_runL (o := jo_X13) (cs := []) (hf := jx_nh) jo_X13_ok jx_cs0 (jx_HK_nil rfl) (fun p => p == 38) 60 ?_
          simp only [jw, ju, jx_tg, Int.cast_ofNat_Int, Int.reduceAdd, Int.reduceToNat, Nat.reduceAdd, Nat.reduceMul, Nat.reduceBEq, Nat.reduceLeDiff, Int.reduceLE, Int.reduceLT, Int.reduceEq, Int.reduceNeg, Int.reduceSub, Int.reduceMul, not_false_eq_true, true_and, and_true, and_self, Bool.or_false, Bool.false_or, Bool.or_true, Bool.true_or, List.length_nil, List.length_cons, Nat.zero_le, or_true, true_or, Nat.le_refl, ↓reduceIte, Nat.reduceEqDiff, forall_const, false_and, and_false, false_implies, implies_true, not_true_eq_false, or_false, false_or, ne_eq, jd_X13_rests, jf_X13, q16]
          refine ⟨by omega, by omega, hx 1 _ _ (by omega) (mPf_u k1) (mm_ps_y (e := e) hends (by omega) k2 ⟨b1.2, b2.2⟩ ?_ ?_ ?_) (fun v a c => ?_) (Or.inr ⟨rfl, M (y + 16) e, b2.1, b2.2, ?_⟩)⟩
          · rw [ew]; omega
          · rw [jx_u_eq, ew]; omega
          · intro v hv
            rw [jx_u_j _ _ _ _ _ _ hv]
          · by_cases hv : v = M (y + 16) e
            · rw [hv, jx_u_eq]
              omega
            · rw [jx_u_j _ _ _ _ _ _ hv]
              have := k3 v a c
              omega
          · rw [jx_u_eq]
            have := k2.1 _ b2.1 b2.2
            omega
        · refine hx mv _ _ (by omega) k1 (mm_ps_n (e := e) hends (by omega) k2 (fun _ => ?_)) (fun v a c => by have := k3 v a c; omega) k4
          rw [ew]; omega
    have rounds : ∀ (f r : Nat) (M' : jx_M) (P3 P4 P5 : jx_A), (r : Int) + f = M y 9 + 1 → mPf y M M' → mm_rd (M y 9) (M y 20) (M (y + 15)) (M (y + 16)) (mm_wr y b M) (M' (y + 28)) r → (∀ v, 0 ≤ v → v < M y 9 → 0 ≤ M' (y + 28) v ∧ M' (y + 28) v ≤ 36000 * r) → jx_V D l (yX13_rests.cls, cX13_rests, 6, 4, [], 0, 0, 0, yX13_rests.name) Po 25 [(73, n1, y), (0, n2, b), (0, 0, (r : Int)), P3, P4, P5] [] (0, 0) g (M') := by
      intro f
      induction f with
      | zero =>
        intro r M' P3 P4 P5 hr k1 k2 k3
        have q9 : M' y 9 = M y 9 := k1 y 9 (by omega)
        refine jx_runL (o := jo_X13) (cs := []) (hf := jx_nh) jo_X13_ok jx_cs0 (jx_HK_nil rfl) (fun p => p == 25 || p == 38) 60 ?_
        simp only [jw, ju, jx_tg, Int.cast_ofNat_Int, Int.reduceAdd, Int.reduceToNat, Nat.reduceAdd, Nat.reduceMul, Nat.reduceBEq, Nat.reduceLeDiff, Int.reduceLE, Int.reduceLT, Int.reduceEq, Int.reduceNeg, Int.reduceSub, Int.reduceMul, not_false_eq_true, true_and, and_true, and_self, Bool.or_false, Bool.false_or, Bool.or_true, Bool.true_or, List.length_nil, List.length_cons, Nat.zero_le, or_true, true_or, Nat.le_refl, ↓reduceIte, Nat.reduceEqDiff, forall_const, false_and, and_false, false_implies, implies_true, not_true_eq_false, or_false, false_or, ne_eq, jd_X13_rests, jf_X13, q9]
        exact ⟨by omega, fun c => hP 0 M' (Or.inr ⟨rfl, mm_rd_end k2 (by omega) (by omega)⟩) k1, fun c => by omega⟩
      | succ f ih =>
        intro r M' P3 P4 P5 hr k1 k2 k3
        have q9 : M' y 9 = M y 9 := k1 y 9 (by omega)
        refine jx_runL (o := jo_X13) (cs := []) (hf := jx_nh) jo_X13_ok jx_cs0 (jx_HK_nil rfl) (fun p => p == 38) 60 ?_
        simp only [jw, ju, jx_tg, Int.cast_ofNat_Int, Int.reduceAdd, Int.reduceToNat, Nat.reduceAdd, Nat.reduceMul, Nat.reduceBEq, Nat.reduceLeDiff, Int.reduceLE, Int.reduceLT, Int.reduceEq, Int.reduceNeg, Int.reduceSub, Int.reduceMul, not_false_eq_true, true_and, and_true, and_self, Bool.or_false, Bool.false_or, Bool.or_true, Bool.true_or, List.length_nil, List.length_cons, Nat.zero_le, or_true, true_or, Nat.le_refl, ↓reduceIte, Nat.reduceEqDiff, forall_const, false_and, and_false, false_implies, implies_true, not_true_eq_false, or_false, false_or, ne_eq, jd_X13_rests, jf_X13, q9]
        refine ⟨by omega, fun c => by omega, fun c => inner r (M' (y + 28)) (by omega) (fun M2 P4 P5 j1 j2 j3 => ⟨fun j4 => ?_, fun j4 => ?_⟩) (M y 20).toNat 0 0 M' _ (by omega) k1 (mm_ps_0 (fun _ _ _ => rfl)) (fun v a c => by have := k3 v a c; omega) (Or.inl ⟨rfl, fun _ _ _ => rfl⟩)⟩
        · refine jx_runL (o := jo_X13) (cs := []) (hf := jx_nh) jo_X13_ok jx_cs0 (jx_HK_nil rfl) (fun p => p == 25) 60 ?_
          simp only [jw, ju, jx_tg, Int.cast_ofNat_Int, Int.reduceAdd, Int.reduceToNat, Nat.reduceAdd, Nat.reduceMul, Nat.reduceBEq, Nat.reduceLeDiff, Int.reduceLE, Int.reduceLT, Int.reduceEq, Int.reduceNeg, Int.reduceSub, Int.reduceMul, not_false_eq_true, true_and, and_true, and_self, Bool.or_false, Bool.false_or, Bool.or_true, Bool.true_or, List.length_nil, List.length_cons, Nat.zero_le, or_true, true_or, Nat.le_refl, ↓reduceIte, Nat.reduceEqDiff, forall_const, false_and, and_false, false_implies, implies_true, not_true_eq_false, or_false, false_or, ne_eq, jd_X13_rests, jf_X13]
          exact hP 1 M2 (Or.inl ⟨rfl, mm_rd_sol hends k2 j2 j4⟩) j1
        · refine jx_runL (o := jo_X13) (cs := []) (hf := jx_nh) jo_X13_ok jx_cs0 (jx_HK_nil rfl) (fun p => p == 25) 60 ?_
          simp only [jw, ju, jx_tg, Int.cast_ofNat_Int, Int.reduceAdd, Int.reduceToNat, Nat.reduceAdd, Nat.reduceMul, Nat.reduceBEq, Nat.reduceLeDiff, Int.reduceLE, Int.reduceLT, Int.reduceEq, Int.reduceNeg, Int.reduceSub, Int.reduceMul, not_false_eq_true, true_and, and_true, and_self, Bool.or_false, Bool.false_or, Bool.or_true, Bool.true_or, List.length_nil, List.length_cons, Nat.zero_le, or_true, true_or, Nat.le_refl, ↓reduceIte, Nat.reduceEqDiff, forall_const, false_and, and_false, false_implies, implies_true, not_true_eq_false, or_false, false_or, ne_eq, jd_X13_rests, jf_X13]
          exact ih (r + 1) M2 _ _ _ (by omega) j1 (mm_rd_next hends k2 j2 j4) (fun v a c => by have := j3 v a c; omega)
    have start : ∀ (f v : Nat) (M' : jx_M) (P3 P4 P5 : jx_A), (v : Int) + f = M y 9 → mPf y M M' → (∀ u : Int, 0 ≤ u → u < v → M' (y + 28) u = 0) → jx_V D l (yX13_rests.cls, cX13_rests, 6, 4, [], 0, 0, 0, yX13_rests.name) Po 2 [(73, n1, y), (0, n2, b), (0, 0, (v : Int)), P3, P4, P5] [] (0, 0) g (M') := by
      intro f
      induction f with
      | zero =>
        intro v M' P3 P4 P5 hv k1 k2
        have q9 : M' y 9 = M y 9 := k1 y 9 (by omega)
        refine jx_runL (o := jo_X13) (cs := []) (hf := jx_nh) jo_X13_ok jx_cs0 (jx_HK_nil rfl) (fun p => p == 2 || p == 25) 60 ?_
        simp only [jw, ju, jx_tg, Int.cast_ofNat_Int, Int.reduceAdd, Int.reduceToNat, Nat.reduceAdd, Nat.reduceMul, Nat.reduceBEq, Nat.reduceLeDiff, Int.reduceLE, Int.reduceLT, Int.reduceEq, Int.reduceNeg, Int.reduceSub, Int.reduceMul, not_false_eq_true, true_and, and_true, and_self, Bool.or_false, Bool.false_or, Bool.or_true, Bool.true_or, List.length_nil, List.length_cons, Nat.zero_le, or_true, true_or, Nat.le_refl, ↓reduceIte, Nat.reduceEqDiff, forall_const, false_and, and_false, false_implies, implies_true, not_true_eq_false, or_false, false_or, ne_eq, jd_X13_rests, jf_X13, q9]
        exact ⟨by omega, fun c => rounds (M y 9 + 1).toNat 0 M' _ _ _ (by omega) k1 (mm_rd_0 (by omega) (fun u a c => k2 u a (by omega))) (fun u a c => by rw [k2 u a (by omega)]; omega), fun c => by omega⟩
      | succ f ih =>
        intro v M' P3 P4 P5 hv k1 k2
        have q9 : M' y 9 = M y 9 := k1 y 9 (by omega)
        refine jx_runL (o := jo_X13) (cs := []) (hf := jx_nh) jo_X13_ok jx_cs0 (jx_HK_nil rfl) (fun p => p == 2 || p == 25) 60 ?_
        simp only [jw, ju, jx_tg, Int.cast_ofNat_Int, Int.reduceAdd, Int.reduceToNat, Nat.reduceAdd, Nat.reduceMul, Nat.reduceBEq, Nat.reduceLeDiff, Int.reduceLE, Int.reduceLT, Int.reduceEq, Int.reduceNeg, Int.reduceSub, Int.reduceMul, not_false_eq_true, true_and, and_true, and_self, Bool.or_false, Bool.false_or, Bool.or_true, Bool.true_or, List.length_nil, List.length_cons, Nat.zero_le, or_true, true_or, Nat.le_refl, ↓reduceIte, Nat.reduceEqDiff, forall_const, false_and, and_false, false_implies, implies_true, not_true_eq_false, or_false, false_or, ne_eq, jd_X13_rests, jf_X13, q9]
        refine ⟨by omega, fun c => by omega, fun c => ⟨by omega, ih (v + 1) _ _ _ _ (by omega) (mPf_u k1) (fun u a d => ?_)⟩⟩
        by_cases hu : u = v
        · rw [hu, jx_u_eq]
        · rw [jx_u_j _ _ _ _ _ _ hu]
          exact k2 u a (by omega)
    refine jx_runL (o := jo_X13) (cs := []) (hf := jx_nh) jo_X13_ok jx_cs0 (jx_HK_nil rfl) (fun p => p == 2) 60 ?_
    simp only [jw, ju, jx_tg, Int.cast_ofNat_Int, Int.reduceAdd, Int.reduceToNat, Nat.reduceAdd, Nat.reduceMul, Nat.reduceBEq, Nat.reduceLeDiff, Int.reduceLE, Int.reduceLT, Int.reduceEq, Int.reduceNeg, Int.reduceSub, Int.reduceMul, not_false_eq_true, true_and, and_true, and_self, Bool.or_false, Bool.false_or, Bool.or_true, Bool.true_or, List.length_nil, List.length_cons, Nat.zero_le, or_true, true_or, Nat.le_refl, ↓reduceIte, Nat.reduceEqDiff, forall_const, false_and, and_false, false_implies, implies_true, not_true_eq_false, or_false, false_or, ne_eq, jd_X13_rests, jf_X13]
    exact start (M y 9).toNat 0 M _ _ _ (by omega) (fun _ _ _ => rfl) (fun u a c => by omega)
  · exact hS.elim
/-- stages: what an edge asks for, by ticks that are tried -/
def mm_wh (y b : Int) (M : jx_M) (e : Int) : Int := -M (y + 18) e - (M (y + 29) (M (y + 16) e) - M (y + 29) (M (y + 15) e) - M (y + 17) e) / b
theorem mm_dv {v b : Int} (hb : 1 ≤ b) (hv : -200 ≤ v ∧ v ≤ 200) : -200 ≤ v / b ∧ v / b ≤ 200 := by
  have h1 := Int.mul_ediv_add_emod v b
  have h2 := Int.emod_nonneg v (show b ≠ 0 by omega)
  have h3 := Int.emod_lt_of_pos v (show 0 < b by omega)
  constructor
  · have : (-200) * b ≤ v := by
      have := Int.mul_le_mul_of_nonneg_left hb (show (0 : Int) ≤ 200 by omega)
      omega
    exact (Int.le_ediv_iff_mul_le (by omega)).mpr this
  · have : v < 201 * b := by
      have := Int.mul_le_mul_of_nonneg_left hb (show (0 : Int) ≤ 201 by omega)
      omega
    have := (Int.ediv_lt_iff_lt_mul (show 0 < b by omega)).mpr this
    omega
def js_X13_holds : jx_Sp := fun as g M Po => match as with
  | [(73, _, y), (0, _, n), (0, _, b)] => ((1 ≤ n ∧ n ≤ 16) ∧ (1 ≤ b ∧ b ≤ 60) ∧ mm_eok 16 y M ∧ (∀ v, 0 ≤ v → v < n → 0 ≤ M (y + 29) v ∧ M (y + 29) v < b)) ∧ ∀ (r : Int) (M' : jx_M), (r = 1 ∧ mm_Least n (M y 20) (M (y + 15)) (M (y + 16)) (mm_wh y b M) (M' (y + 28)) ∨ r = 0 ∧ ¬ ∃ f, mm_Sol n (M y 20) (M (y + 15)) (M (y + 16)) (mm_wh y b M) f) → mPf y M M' → Po (0, 0, r) g M'
  | _ => False
def cs_X13_holds : jx_Cs := [(652, 2, 0, 0, js_X13_cut)]
theorem hc_X13_holds {D : jx_D} {l : Launch} : jx_CsOK D l "LoopLaneModel" 1 cs_X13_holds := List.forall_mem_cons.mpr ⟨jc_X13_217 (jt_X13_cut l) (fun as g M Po (h : js_X13_cut as g M Po) => by unfold js_X13_cut at h; split at h <;> first | exact h.elim | exact rfl) (by decide), fun _ h => absurd h List.not_mem_nil⟩
set_option maxHeartbeats 4000000 in
theorem jt_X13_holds (l : Launch) : jx_Ct l yX13_holds (ws_ yX13_holds cX13_holds 9 (some .boolean)) 1 0 0 js_X13_holds := by
  refine jx_Ct_c (rc := 4) (by decide) rfl (fun D as g M Po hS => ?_)
  unfold js_X13_holds at hS
  split at hS
  · rename_i n1 y n2 n n3 b
    obtain ⟨⟨h1, h2, ⟨h3, h4⟩, h5⟩, hP⟩ := hS
    refine ⟨Nat.le_of_ble_eq_true rfl, ?_⟩
    have hends : mm_ends (M y 20) (M (y + 15)) (M (y + 16)) := fun e a c => ⟨(h4 e a c).1.1, (h4 e a c).2.1.1⟩
    have inner : ∀ (r : Nat) (P : Int → Int), (r : Int) ≤ n → (∀ (M' : jx_M) (P5 P6 P7 P8 : jx_A), mPf y M M' → mm_ps n (M y 20) (M (y + 15)) (M (y + 16)) (mm_wh y b M) P (M' (y + 28)) (M y 20) → (∀ v, 0 ≤ v → v < n → 0 ≤ M' (y + 28) v ∧ M' (y + 28) v ≤ 150000 * (r + 1)) →
          ((∀ v, 0 ≤ v → v < n → M' (y + 28) v = P v) → jx_V D l (yX13_holds.cls, cX13_holds, 9, 4, [], 1, 0, 0, yX13_holds.name) Po 153 [(73, n1, y), (0, n2, n), (0, n3, b), (0, 0, (r : Int)), (0, 0, 0), P5, P6, P7, P8] [] (0, 0) g (M')) ∧ ((∃ v, 0 ≤ v ∧ v < n ∧ M' (y + 28) v ≠ P v) → jx_V D l (yX13_holds.cls, cX13_holds, 9, 4, [], 1, 0, 0, yX13_holds.name) Po 153 [(73, n1, y), (0, n2, n), (0, n3, b), (0, 0, (r : Int)), (0, 0, 1), P5, P6, P7, P8] [] (0, 0) g (M'))) →
        ∀ (f e : Nat) (mv : Int) (M' : jx_M) (P6 P7 P8 : jx_A), (e : Int) + f = M y 20 → mPf y M M' → mm_ps n (M y 20) (M (y + 15)) (M (y + 16)) (mm_wh y b M) P (M' (y + 28)) e → (∀ v, 0 ≤ v → v < n → 0 ≤ M' (y + 28) v ∧ M' (y + 28) v ≤ 150000 * r + 200 * e) → ((mv = 0 ∧ ∀ v, 0 ≤ v → v < n → M' (y + 28) v = P v) ∨ (mv = 1 ∧ ∃ v, 0 ≤ v ∧ v < n ∧ M' (y + 28) v ≠ P v)) →
        jx_V D l (yX13_holds.cls, cX13_holds, 9, 4, [], 1, 0, 0, yX13_holds.name) Po 33 [(73, n1, y), (0, n2, n), (0, n3, b), (0, 0, (r : Int)), (0, 0, mv), (0, 0, (e : Int)), P6, P7, P8] [] (0, 0) g (M') := by
      intro r P hr hE f
      induction f with
      | zero =>
        intro e mv M' P6 P7 P8 he k1 k2 k3 k4
        have q20 : M' y 20 = M y 20 := k1 y 20 (by omega)
        obtain ⟨g1, g2⟩ := hE M' (0, 0, (e : Int)) P6 P7 P8 k1 (by rw [show M y 20 = e by omega] at k2 ⊢; exact k2) (fun v a c => by have := k3 v a c; omega)
        refine jx_runL (o := jo_X13) (cs := cs_X13_holds) (hf := jx_nh) jo_X13_ok hc_X13_holds (jx_HK_nil rfl) (fun p => p == 33 || p == 153) 60 ?_
        simp only [jw, ju, jx_tg, Int.cast_ofNat_Int, Int.reduceAdd, Int.reduceToNat, Nat.reduceAdd, Nat.reduceMul, Nat.reduceBEq, Nat.reduceLeDiff, Int.reduceLE, Int.reduceLT, Int.reduceEq, Int.reduceNeg, Int.reduceSub, Int.reduceMul, not_false_eq_true, true_and, and_true, and_self, Bool.or_false, Bool.false_or, Bool.or_true, Bool.true_or, List.length_nil, List.length_cons, Nat.zero_le, or_true, true_or, Nat.le_refl, ↓reduceIte, Nat.reduceEqDiff, forall_const, false_and, and_false, false_implies, implies_true, not_true_eq_false, or_false, false_or, ne_eq, jd_X13_holds, jf_X13, q20, js_X13_cut, cs_X13_holds, jx_ck_c]
        refine ⟨by omega, fun c => ?_, fun c => by omega⟩
        rcases k4 with ⟨rfl, k4⟩ | ⟨rfl, k4⟩
        · exact g1 k4
        · exact g2 k4
      | succ f ih =>
        intro e mv M' P6 P7 P8 he k1 k2 k3 k4
        have q20 : M' y 20 = M y 20 := k1 y 20 (by omega)
        have q15 : M' (y + 15) e = M (y + 15) e := k1 _ _ (by omega)
        have q16 : M' (y + 16) e = M (y + 16) e := k1 _ _ (by omega)
        have q17 : M' (y + 17) e = M (y + 17) e := k1 _ _ (by omega)
        have q18 : M' (y + 18) e = M (y + 18) e := k1 _ _ (by omega)
        have q29 : ∀ k, M' (y + 29) k = M (y + 29) k := fun k => k1 _ _ (by omega)
        obtain ⟨b1, b2, b3, b4⟩ := h4 e (by omega) (by omega)
        have hx := ih (e + 1)
        have ew : mm_wh y b M e = -M (y + 18) e - (M (y + 29) (M (y + 16) e) - M (y + 29) (M (y + 15) e) - M (y + 17) e) / b := rfl
        refine jx_runL (o := jo_X13) (cs := cs_X13_holds) (hf := jx_nh) jo_X13_ok hc_X13_holds (jx_HK_nil rfl) (fun p => p == 33 || p == 75) 60 ?_
        simp only [jw, ju, jx_tg, Int.cast_ofNat_Int, Int.reduceAdd, Int.reduceToNat, Nat.reduceAdd, Nat.reduceMul, Nat.reduceBEq, Nat.reduceLeDiff, Int.reduceLE, Int.reduceLT, Int.reduceEq, Int.reduceNeg, Int.reduceSub, Int.reduceMul, not_false_eq_true, true_and, and_true, and_self, Bool.or_false, Bool.false_or, Bool.or_true, Bool.true_or, List.length_nil, List.length_cons, Nat.zero_le, or_true, true_or, Nat.le_refl, ↓reduceIte, Nat.reduceEqDiff, forall_const, false_and, and_false, false_implies, implies_true, not_true_eq_false, or_false, false_or, ne_eq, jd_X13_holds, jf_X13, q20, q15, q16, js_X13_cut, cs_X13_holds, jx_ck_c]
        refine ⟨by omega, fun c => by omega, fun c => ⟨by omega, by omega, by omega, fun c1 => ?_, fun c1 => ⟨by omega, fun c2 => ?_, fun c2 => ?_⟩⟩⟩
        · exact hx mv _ _ _ _ (by omega) k1 (mm_ps_n (e := e) hends (by omega) k2 (fun z => absurd z.1 (by omega))) (fun v a c => by have := k3 v a c; omega) k4
        · have p1 := k3 _ b1.1 (show M (y + 15) e < n by omega)
          have p2 := k3 _ b2.1 c2
          have t1 := h5 _ b1.1 (show M (y + 15) e < n by omega)
          have t2 := h5 _ b2.1 c2
          have dv := mm_dv (v := M (y + 29) (M (y + 16) e) - M (y + 29) (M (y + 15) e) - M (y + 17) e) (b := b) (by omega) (by omega)
          refine jx_runL (o := jo_X13) (cs := cs_X13_holds) (hf := jx_nh) jo_X13_ok hc_X13_holds (jx_HK_nil rfl) (fun p => p == 33 || p == 135) 60 ?_
          simp only [jw, ju, jx_tg, Int.cast_ofNat_Int, Int.reduceAdd, Int.reduceToNat, Nat.reduceAdd, Nat.reduceMul, Nat.reduceBEq, Nat.reduceLeDiff, Int.reduceLE, Int.reduceLT, Int.reduceEq, Int.reduceNeg, Int.reduceSub, Int.reduceMul, not_false_eq_true, true_and, and_true, and_self, Bool.or_false, Bool.false_or, Bool.or_true, Bool.true_or, List.length_nil, List.length_cons, Nat.zero_le, or_true, true_or, Nat.le_refl, ↓reduceIte, Nat.reduceEqDiff, forall_const, false_and, and_false, false_implies, implies_true, not_true_eq_false, or_false, false_or, ne_eq, jd_X13_holds, jf_X13, q15, q16, q17, q18, q29, js_X13_cut, cs_X13_holds, jx_ck_c]
          refine ⟨by omega, by omega, by omega, by omega, by omega, by omega, by omega, by omega, by omega, fun c3 => ?_, fun c3 => ?_⟩
          · refine jx_runL (o := jo_X13) (cs := cs_X13_holds) (hf := jx_nh) jo_X13_ok hc_X13_holds (jx_HK_nil rfl) (fun p => p == 33) 60 ?_
            simp only [jw, ju, jx_tg, Int.cast_ofNat_Int, Int.reduceAdd, Int.reduceToNat, Nat.reduceAdd, Nat.reduceMul, Nat.reduceBEq, Nat.reduceLeDiff, Int.reduceLE, Int.reduceLT, Int.reduceEq, Int.reduceNeg, Int.reduceSub, Int.reduceMul, not_false_eq_true, true_and, and_true, and_self, Bool.or_false, Bool.false_or, Bool.or_true, Bool.true_or, List.length_nil, List.length_cons, Nat.zero_le, or_true, true_or, Nat.le_refl, ↓reduceIte, Nat.reduceEqDiff, forall_const, false_and, and_false, false_implies, implies_true, not_true_eq_false, or_false, false_or, ne_eq, jd_X13_holds, jf_X13, js_X13_cut, cs_X13_holds, jx_ck_c]
            refine ⟨by omega, hx 1 _ _ _ _ (by omega) (mPf_u k1) (mm_ps_y (e := e) hends (by omega) k2 ⟨by omega, c2⟩ ?_ ?_ ?_) (fun v a c => ?_) (Or.inr ⟨rfl, M (y + 16) e, b2.1, c2, ?_⟩)⟩
            · rw [ew]; omega
            · rw [jx_u_eq, ew]; omega
            · intro v hv
              rw [jx_u_j _ _ _ _ _ _ hv]
            · by_cases hv : v = M (y + 16) e
              · rw [hv, jx_u_eq]
                omega
              · rw [jx_u_j _ _ _ _ _ _ hv]
                have := k3 v a c
                omega
            · rw [jx_u_eq]
              have := k2.1 _ b2.1 c2
              omega
          · refine hx mv _ _ _ _ (by omega) k1 (mm_ps_n (e := e) hends (by omega) k2 (fun _ => ?_)) (fun v a c => by have := k3 v a c; omega) k4
            rw [ew]; omega
        · exact hx mv _ _ _ _ (by omega) k1 (mm_ps_n (e := e) hends (by omega) k2 (fun z => absurd z.2 (by omega))) (fun v a c => by have := k3 v a c; omega) k4
    have rounds : ∀ (f r : Nat) (M' : jx_M) (P4 P5 P6 P7 P8 : jx_A), (r : Int) + f = n + 1 → mPf y M M' → mm_rd n (M y 20) (M (y + 15)) (M (y + 16)) (mm_wh y b M) (M' (y + 28)) r → (∀ v, 0 ≤ v → v < n → 0 ≤ M' (y + 28) v ∧ M' (y + 28) v ≤ 150000 * r) → jx_V D l (yX13_holds.cls, cX13_holds, 9, 4, [], 1, 0, 0, yX13_holds.name) Po 22 [(73, n1, y), (0, n2, n), (0, n3, b), (0, 0, (r : Int)), P4, P5, P6, P7, P8] [] (0, 0) g (M') := by
      intro f
      induction f with
      | zero =>
        intro r M' P4 P5 P6 P7 P8 hr k1 k2 k3
        refine jx_runL (o := jo_X13) (cs := cs_X13_holds) (hf := jx_nh) jo_X13_ok hc_X13_holds (jx_HK_nil rfl) (fun p => p == 22 || p == 33) 60 ?_
        simp only [jw, ju, jx_tg, Int.cast_ofNat_Int, Int.reduceAdd, Int.reduceToNat, Nat.reduceAdd, Nat.reduceMul, Nat.reduceBEq, Nat.reduceLeDiff, Int.reduceLE, Int.reduceLT, Int.reduceEq, Int.reduceNeg, Int.reduceSub, Int.reduceMul, not_false_eq_true, true_and, and_true, and_self, Bool.or_false, Bool.false_or, Bool.or_true, Bool.true_or, List.length_nil, List.length_cons, Nat.zero_le, or_true, true_or, Nat.le_refl, ↓reduceIte, Nat.reduceEqDiff, forall_const, false_and, and_false, false_implies, implies_true, not_true_eq_false, or_false, false_or, ne_eq, jd_X13_holds, jf_X13, js_X13_cut, cs_X13_holds, jx_ck_c]
        exact ⟨by omega, fun c => hP 0 M' (Or.inr ⟨rfl, mm_rd_end k2 (by omega) (by omega)⟩) k1, fun c => by omega⟩
      | succ f ih =>
        intro r M' P4 P5 P6 P7 P8 hr k1 k2 k3
        refine jx_runL (o := jo_X13) (cs := cs_X13_holds) (hf := jx_nh) jo_X13_ok hc_X13_holds (jx_HK_nil rfl) (fun p => p == 33) 60 ?_
        simp only [jw, ju, jx_tg, Int.cast_ofNat_Int, Int.reduceAdd, Int.reduceToNat, Nat.reduceAdd, Nat.reduceMul, Nat.reduceBEq, Nat.reduceLeDiff, Int.reduceLE, Int.reduceLT, Int.reduceEq, Int.reduceNeg, Int.reduceSub, Int.reduceMul, not_false_eq_true, true_and, and_true, and_self, Bool.or_false, Bool.false_or, Bool.or_true, Bool.true_or, List.length_nil, List.length_cons, Nat.zero_le, or_true, true_or, Nat.le_refl, ↓reduceIte, Nat.reduceEqDiff, forall_const, false_and, and_false, false_implies, implies_true, not_true_eq_false, or_false, false_or, ne_eq, jd_X13_holds, jf_X13, js_X13_cut, cs_X13_holds, jx_ck_c]
        refine ⟨by omega, fun c => by omega, fun c => inner r (M' (y + 28)) (by omega) (fun M2 P5 P6 P7 P8 j1 j2 j3 => ⟨fun j4 => ?_, fun j4 => ?_⟩) (M y 20).toNat 0 0 M' _ _ _ (by omega) k1 (mm_ps_0 (fun _ _ _ => rfl)) (fun v a c => by have := k3 v a c; omega) (Or.inl ⟨rfl, fun _ _ _ => rfl⟩)⟩
        · refine jx_runL (o := jo_X13) (cs := cs_X13_holds) (hf := jx_nh) jo_X13_ok hc_X13_holds (jx_HK_nil rfl) (fun p => p == 22) 60 ?_
          simp only [jw, ju, jx_tg, Int.cast_ofNat_Int, Int.reduceAdd, Int.reduceToNat, Nat.reduceAdd, Nat.reduceMul, Nat.reduceBEq, Nat.reduceLeDiff, Int.reduceLE, Int.reduceLT, Int.reduceEq, Int.reduceNeg, Int.reduceSub, Int.reduceMul, not_false_eq_true, true_and, and_true, and_self, Bool.or_false, Bool.false_or, Bool.or_true, Bool.true_or, List.length_nil, List.length_cons, Nat.zero_le, or_true, true_or, Nat.le_refl, ↓reduceIte, Nat.reduceEqDiff, forall_const, false_and, and_false, false_implies, implies_true, not_true_eq_false, or_false, false_or, ne_eq, jd_X13_holds, jf_X13, js_X13_cut, cs_X13_holds, jx_ck_c]
          exact hP 1 M2 (Or.inl ⟨rfl, mm_rd_sol hends k2 j2 j4⟩) j1
        · refine jx_runL (o := jo_X13) (cs := cs_X13_holds) (hf := jx_nh) jo_X13_ok hc_X13_holds (jx_HK_nil rfl) (fun p => p == 22) 60 ?_
          simp only [jw, ju, jx_tg, Int.cast_ofNat_Int, Int.reduceAdd, Int.reduceToNat, Nat.reduceAdd, Nat.reduceMul, Nat.reduceBEq, Nat.reduceLeDiff, Int.reduceLE, Int.reduceLT, Int.reduceEq, Int.reduceNeg, Int.reduceSub, Int.reduceMul, not_false_eq_true, true_and, and_true, and_self, Bool.or_false, Bool.false_or, Bool.or_true, Bool.true_or, List.length_nil, List.length_cons, Nat.zero_le, or_true, true_or, Nat.le_refl, ↓reduceIte, Nat.reduceEqDiff, forall_const, false_and, and_false, false_implies, implies_true, not_true_eq_false, or_false, false_or, ne_eq, jd_X13_holds, jf_X13, js_X13_cut, cs_X13_holds, jx_ck_c]
          exact ih (r + 1) M2 _ _ _ _ _ (by omega) j1 (mm_rd_next hends k2 j2 j4) (fun v a c => by have := j3 v a c; omega)
    have start : ∀ (f v : Nat) (M' : jx_M) (P4 P5 P6 P7 P8 : jx_A), (v : Int) + f = n → mPf y M M' → (∀ u : Int, 0 ≤ u → u < v → M' (y + 28) u = 0) → jx_V D l (yX13_holds.cls, cX13_holds, 9, 4, [], 1, 0, 0, yX13_holds.name) Po 2 [(73, n1, y), (0, n2, n), (0, n3, b), (0, 0, (v : Int)), P4, P5, P6, P7, P8] [] (0, 0) g (M') := by
      intro f
      induction f with
      | zero =>
        intro v M' P4 P5 P6 P7 P8 hv k1 k2
        refine jx_runL (o := jo_X13) (cs := cs_X13_holds) (hf := jx_nh) jo_X13_ok hc_X13_holds (jx_HK_nil rfl) (fun p => p == 2 || p == 22) 60 ?_
        simp only [jw, ju, jx_tg, Int.cast_ofNat_Int, Int.reduceAdd, Int.reduceToNat, Nat.reduceAdd, Nat.reduceMul, Nat.reduceBEq, Nat.reduceLeDiff, Int.reduceLE, Int.reduceLT, Int.reduceEq, Int.reduceNeg, Int.reduceSub, Int.reduceMul, not_false_eq_true, true_and, and_true, and_self, Bool.or_false, Bool.false_or, Bool.or_true, Bool.true_or, List.length_nil, List.length_cons, Nat.zero_le, or_true, true_or, Nat.le_refl, ↓reduceIte, Nat.reduceEqDiff, forall_const, false_and, and_false, false_implies, implies_true, not_true_eq_false, or_false, false_or, ne_eq, jd_X13_holds, jf_X13, js_X13_cut, cs_X13_holds, jx_ck_c]
        exact ⟨by omega, fun c => rounds (n + 1).toNat 0 M' _ _ _ _ _ (by omega) k1 (mm_rd_0 (by omega) (fun u a c => k2 u a (by omega))) (fun u a c => by rw [k2 u a (by omega)]; omega), fun c => by omega⟩
      | succ f ih =>
        intro v M' P4 P5 P6 P7 P8 hv k1 k2
        refine jx_runL (o := jo_X13) (cs := cs_X13_holds) (hf := jx_nh) jo_X13_ok hc_X13_holds (jx_HK_nil rfl) (fun p => p == 2 || p == 22) 60 ?_
        simp only [jw, ju, jx_tg, Int.cast_ofNat_Int, Int.reduceAdd, Int.reduceToNat, Nat.reduceAdd, Nat.reduceMul, Nat.reduceBEq, Nat.reduceLeDiff, Int.reduceLE, Int.reduceLT, Int.reduceEq, Int.reduceNeg, Int.reduceSub, Int.reduceMul, not_false_eq_true, true_and, and_true, and_self, Bool.or_false, Bool.false_or, Bool.or_true, Bool.true_or, List.length_nil, List.length_cons, Nat.zero_le, or_true, true_or, Nat.le_refl, ↓reduceIte, Nat.reduceEqDiff, forall_const, false_and, and_false, false_implies, implies_true, not_true_eq_false, or_false, false_or, ne_eq, jd_X13_holds, jf_X13, js_X13_cut, cs_X13_holds, jx_ck_c]
        refine ⟨by omega, fun c => by omega, fun c => ⟨by omega, ih (v + 1) _ _ _ _ _ _ (by omega) (mPf_u k1) (fun u a d => ?_)⟩⟩
        by_cases hu : u = v
        · rw [hu, jx_u_eq]
        · rw [jx_u_j _ _ _ _ _ _ hu]
          exact k2 u a (by omega)
    refine jx_runL (o := jo_X13) (cs := cs_X13_holds) (hf := jx_nh) jo_X13_ok hc_X13_holds (jx_HK_nil rfl) (fun p => p == 2) 60 ?_
    simp only [jw, ju, jx_tg, Int.cast_ofNat_Int, Int.reduceAdd, Int.reduceToNat, Nat.reduceAdd, Nat.reduceMul, Nat.reduceBEq, Nat.reduceLeDiff, Int.reduceLE, Int.reduceLT, Int.reduceEq, Int.reduceNeg, Int.reduceSub, Int.reduceMul, not_false_eq_true, true_and, and_true, and_self, Bool.or_false, Bool.false_or, Bool.or_true, Bool.true_or, List.length_nil, List.length_cons, Nat.zero_le, or_true, true_or, Nat.le_refl, ↓reduceIte, Nat.reduceEqDiff, forall_const, false_and, and_false, false_implies, implies_true, not_true_eq_false, or_false, false_or, ne_eq, jd_X13_holds, jf_X13, js_X13_cut, cs_X13_holds, jx_ck_c]
    exact start n.toNat 0 M _ _ _ _ _ (by omega) (fun _ _ _ => rfl) (fun u a c => by omega)
  · exact hS.elim
