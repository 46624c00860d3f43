/-! the reference, 3: bits, cut, why, unwrong, changes, adds -/
set_option maxRecDepth 100000
/-- bit k of a pattern -/
def mm_bit (p k : Int) : Int := p / 2 ^ k.toNat % 2
theorem mm_bit_f : ∀ (p : Fin 256) (k : Fin 8), jx_and (jx_shr (p.val : Int) (k.val : Int)) 1 = mm_bit p.val k.val := by decide +kernel
theorem mm_bit_ok {p k : Int} (hp : 0 ≤ p ∧ p ≤ 255) (hk : 0 ≤ k ∧ k < 8) : jx_and (jx_shr p k) 1 = mm_bit p k := by
  have := mm_bit_f ⟨p.toNat, by omega⟩ ⟨k.toNat, by omega⟩
  dsimp only at this
  rw [Int.toNat_of_nonneg hp.1, Int.toNat_of_nonneg hk.1] at this
  exact this
theorem mm_bit_01 (p k : Int) : 0 ≤ mm_bit p k ∧ mm_bit p k ≤ 1 := by
  unfold mm_bit
  omega
/-- how many of the first n bits -/
def mm_bits (p : Int) : Nat → Int
  | 0 => 0
  | n + 1 => mm_bits p n + mm_bit p n
def js_X13_bits : jx_Sp := fun as g M Po => match as with
  | [(0, _, p)] => (0 ≤ p ∧ p ≤ 255) ∧ Po (0, 0, mm_bits p 8) g M
  | _ => False
set_option maxHeartbeats 4000000 in
theorem jt_X13_bits (l : Launch) : jx_Ct l yX13_bits (ws_ yX13_bits cX13_bits 3 (some .int)) 0 0 0 js_X13_bits := by
  refine jx_Ct_c (rc := 0) (by decide) rfl (fun D as g M Po hS => ?_)
  unfold js_X13_bits at hS
  split at hS
  · rename_i n1 p
    obtain ⟨h1, h2⟩ := hS
    refine ⟨Nat.le_of_ble_eq_true rfl, ?_⟩
    have loop : ∀ (n k : Nat), k + n = 8 → jx_V D l (yX13_bits.cls, cX13_bits, 3, 0, [], 0, 0, 0, yX13_bits.name) Po 4 [(0, n1, p), (0, 0, mm_bits p k), (0, 0, k)] [] (0, 0) g M := by
      intro n
      induction n with
      | zero =>
        intro k hk
        have hk : k = 8 := by omega
        subst hk
        refine jx_runL (o := jo_X13) (cs := []) (hf := jx_nh) jo_X13_ok jx_cs0 (jx_HK_nil rfl) (fun p => p == 4) 40 ?_
        simp only [jw, ju, jx_tg, Int.cast_ofNat_Int, Int.reduceAdd, Int.reduceToNat, Nat.reduceAdd, Nat.reduceMul, Nat.reduceBEq, Nat.reduceLeDiff, Int.reduceLE, Int.reduceLT, Int.reduceEq, Int.reduceNeg, Int.reduceSub, Int.reduceMul, not_false_eq_true, true_and, and_true, and_self, Bool.or_false, Bool.false_or, Bool.or_true, Bool.true_or, List.length_nil, List.length_cons, Nat.zero_le, or_true, true_or, Nat.le_refl, ↓reduceIte, Nat.reduceEqDiff, forall_const, false_and, and_false, false_implies, implies_true, not_true_eq_false, or_false, false_or, ne_eq, jd_X13_bits, jf_X13]
        exact h2
      | succ n ih =>
        intro k hk
        refine jx_runL (o := jo_X13) (cs := []) (hf := jx_nh) jo_X13_ok jx_cs0 (jx_HK_nil rfl) (fun p => p == 4) 40 ?_
        simp only [jw, ju, jx_tg, Int.cast_ofNat_Int, Int.reduceAdd, Int.reduceToNat, Nat.reduceAdd, Nat.reduceMul, Nat.reduceBEq, Nat.reduceLeDiff, Int.reduceLE, Int.reduceLT, Int.reduceEq, Int.reduceNeg, Int.reduceSub, Int.reduceMul, not_false_eq_true, true_and, and_true, and_self, Bool.or_false, Bool.false_or, Bool.or_true, Bool.true_or, List.length_nil, List.length_cons, Nat.zero_le, or_true, true_or, Nat.le_refl, ↓reduceIte, Nat.reduceEqDiff, forall_const, false_and, and_false, false_implies, implies_true, not_true_eq_false, or_false, false_or, ne_eq, jd_X13_bits, jf_X13]
        refine ⟨by omega, fun c => by omega, fun c => ?_⟩
        have := ih (k + 1) (by omega)
        rw [mm_bit_ok h1 ⟨by omega, by omega⟩]
        exact this
    refine jx_runL (o := jo_X13) (cs := []) (hf := jx_nh) jo_X13_ok jx_cs0 (jx_HK_nil rfl) (fun p => p == 4) 5 ?_
    simp only [jw, ju, jx_tg, Int.cast_ofNat_Int, Int.reduceAdd, Int.reduceToNat, Nat.reduceAdd, Nat.reduceMul, Nat.reduceBEq, Nat.reduceLeDiff, Int.reduceLE, Int.reduceLT, Int.reduceEq, Int.reduceNeg, Int.reduceSub, Int.reduceMul, not_false_eq_true, true_and, and_true, and_self, Bool.or_false, Bool.false_or, Bool.or_true, Bool.true_or, List.length_nil, List.length_cons, Nat.zero_le, or_true, true_or, Nat.le_refl, ↓reduceIte, Nat.reduceEqDiff, forall_const, false_and, and_false, false_implies, implies_true, not_true_eq_false, or_false, false_or, ne_eq, jd_X13_bits, jf_X13]
    exact loop 8 0 rfl
  · exact hS.elim
theorem mm_cutN {v b : Int} (hb : 0 < b) : -((b - 1 - v) / b) = v / b := by
  have h1 := Int.mul_ediv_add_emod v b
  have h2 := Int.emod_nonneg v (show b ≠ 0 by omega)
  have h3 := Int.emod_lt_of_pos v hb
  have e : b - 1 - v = (b - 1 - v % b) + b * (-(v / b)) := by rw [Int.mul_neg]; omega
  rw [e, Int.add_mul_ediv_left _ _ (show b ≠ 0 by omega), Int.ediv_eq_zero_of_lt (by omega) (by omega)]
  omega
def js_X13_cut : jx_Sp := fun as g M Po => match as with
  | [(0, _, v), (0, _, b)] => (-100000 ≤ v ∧ v ≤ 100000) ∧ (0 < b ∧ b ≤ 100000) ∧ Po (0, 0, v / b) g M
  | _ => False
set_option maxHeartbeats 4000000 in
theorem jt_X13_cut (l : Launch) : jx_Ct l yX13_cut (ws_ yX13_cut cX13_cut 2 (some .int)) 0 0 0 js_X13_cut := by
  refine jx_Ct_c (rc := 0) (by decide) rfl (fun D as g M Po hS => ?_)
  unfold js_X13_cut at hS
  split at hS
  · rename_i n1 v n2 b
    obtain ⟨h1, h2, h3⟩ := hS
    refine ⟨Nat.le_of_ble_eq_true rfl, ?_⟩
    refine jx_runL (o := jo_X13) (cs := []) (hf := jx_nh) jo_X13_ok jx_cs0 (jx_HK_nil rfl) (fun _ => false) 40 ?_
    simp only [jw, ju, jx_tg, Int.cast_ofNat_Int, Int.reduceAdd, Int.reduceToNat, Nat.reduceAdd, Nat.reduceMul, Nat.reduceBEq, Nat.reduceLeDiff, Int.reduceLE, Int.reduceLT, Int.reduceEq, Int.reduceNeg, Int.reduceSub, Int.reduceMul, not_false_eq_true, true_and, and_true, and_self, Bool.or_false, Bool.false_or, Bool.or_true, Bool.true_or, List.length_nil, List.length_cons, Nat.zero_le, or_true, true_or, Nat.le_refl, ↓reduceIte, Nat.reduceEqDiff, forall_const, false_and, and_false, false_implies, implies_true, not_true_eq_false, or_false, false_or, ne_eq, jd_X13_cut, jf_X13]
    refine ⟨by omega, fun c => ⟨by omega, ?_⟩, fun c => ⟨by omega, ?_⟩⟩
    · rw [Int.tdiv_eq_ediv_of_nonneg (by omega), mm_cutN h2.1]
      exact h3
    · rw [Int.tdiv_eq_ediv_of_nonneg (by omega)]
      exact h3
  · exact hS.elim
def js_X13_why : jx_Sp := fun as g M Po => match as with
  | [(73, _, y), (0, _, s), (1, _, i)] => (0 ≤ s ∧ s < 8) ∧ (0 ≤ M (y + 21) s ∧ M (y + 21) s ≤ 40) ∧ (M (y + 22) s = 0 ∨ M (y + 22) s = 1) ∧ (M (y + 21) s = 0 → Po (0, 0, -2) g M) ∧ (M (y + 21) s ≠ 0 → M (y + 22) s = 0 → Po (0, 0, -5) g M) ∧
      (M (y + 21) s ≠ 0 → M (y + 22) s = 1 → (0 ≤ i ∧ i < M (y + 21) s) → Po (0, 0, 0) g M) ∧ (M (y + 21) s ≠ 0 → M (y + 22) s = 1 → ¬ (0 ≤ i ∧ i < M (y + 21) s) → Po (0, 0, -3) g M)
  | _ => False
def cs_X13_why : jx_Cs := [(412, 3, 0, 0, js_X13_isIn)]
theorem hc_X13_why {D : jx_D} {l : Launch} : jx_CsOK D l "LoopLaneModel" 1 cs_X13_why := List.forall_mem_cons.mpr ⟨jc_X13_137 (jt_X13_isIn l) (fun as g M Po (h : js_X13_isIn as g M Po) => by unfold js_X13_isIn at h; split at h <;> first | exact h.elim | exact rfl) (by decide), fun _ h => absurd h List.not_mem_nil⟩
set_option maxHeartbeats 4000000 in
theorem jt_X13_why (l : Launch) : jx_Ct l yX13_why (ws_ yX13_why cX13_why 4 (some .int)) 1 0 0 js_X13_why := by
  refine jx_Ct_c (rc := 0) (by decide) rfl (fun D as g M Po hS => ?_)
  unfold js_X13_why at hS
  split at hS
  · rename_i n1 y n2 s n3 i
    obtain ⟨h1, h2, h3, h4, h5, h6, h7⟩ := hS
    refine ⟨Nat.le_of_ble_eq_true rfl, ?_⟩
    refine jx_runL (o := jo_X13) (cs := cs_X13_why) (hf := jx_nh) jo_X13_ok hc_X13_why (jx_HK_nil rfl) (fun _ => false) 60 ?_
    simp only [jw, ju, jx_tg, Int.cast_ofNat_Int, Int.reduceAdd, Int.reduceToNat, Nat.reduceAdd, Nat.reduceMul, Nat.reduceBEq, Nat.reduceLeDiff, Int.reduceLE, Int.reduceLT, Int.reduceEq, Int.reduceNeg, Int.reduceSub, Int.reduceMul, not_false_eq_true, true_and, and_true, and_self, Bool.or_false, Bool.false_or, Bool.or_true, Bool.true_or, List.length_nil, List.length_cons, Nat.zero_le, or_true, true_or, Nat.le_refl, ↓reduceIte, Nat.reduceEqDiff, forall_const, false_and, and_false, false_implies, implies_true, not_true_eq_false, or_false, false_or, ne_eq, jd_X13_why, jf_X13, js_X13_isIn, cs_X13_why, jx_ck_c]
    refine ⟨h1, by omega, fun c => ⟨h1, by omega, fun c2 => ⟨h1, by omega, fun c3 => h6 c (by omega) (by omega), fun c3 => h7 c (by omega) (by omega)⟩, fun c2 => h5 c (by omega)⟩, fun c => h4 (by omega)⟩
  · exact hS.elim
def mu_changes (M : jx_M) (y : Int) : jx_M := mu_forget (jx_u M y 27 0) y
def js_X13_changes : jx_Sp := fun as g M Po => match as with
  | [(73, _, y)] => Po (3, 0, 0) g (mu_changes M y)
  | _ => False
def cs_X13_changes : jx_Cs := [(324, 1, 0, 0, js_X13_forget)]
theorem hc_X13_changes {D : jx_D} {l : Launch} : jx_CsOK D l "LoopLaneModel" 1 cs_X13_changes := List.forall_mem_cons.mpr ⟨jc_X13_108 (jt_X13_forget l) (fun as g M Po (h : js_X13_forget as g M Po) => by unfold js_X13_forget at h; split at h <;> first | exact h.elim | exact ⟨_, _, _, rfl, rfl⟩) (by decide), fun _ h => absurd h List.not_mem_nil⟩
set_option maxHeartbeats 4000000 in
theorem jt_X13_changes (l : Launch) : jx_Ct l yX13_changes (ws_ yX13_changes cX13_changes 1 none) 1 0 0 js_X13_changes := by
  refine jx_Ct_c (rc := 3) (by decide) rfl (fun D as g M Po hS => ?_)
  unfold js_X13_changes at hS
  split at hS
  · rename_i n1 y
    refine ⟨Nat.le_of_ble_eq_true rfl, ?_⟩
    refine jx_runL (o := jo_X13) (cs := cs_X13_changes) (hf := jx_nh) jo_X13_ok hc_X13_changes (jx_HK_nil rfl) (fun _ => false) 40 ?_
    simp only [jw, ju, jx_tg, Int.cast_ofNat_Int, Int.reduceAdd, Int.reduceToNat, Nat.reduceAdd, Nat.reduceMul, Nat.reduceBEq, Nat.reduceLeDiff, Int.reduceLE, Int.reduceLT, Int.reduceEq, Int.reduceNeg, Int.reduceSub, Int.reduceMul, not_false_eq_true, true_and, and_true, and_self, Bool.or_false, Bool.false_or, Bool.or_true, Bool.true_or, List.length_nil, List.length_cons, Nat.zero_le, or_true, true_or, Nat.le_refl, ↓reduceIte, Nat.reduceEqDiff, forall_const, false_and, and_false, false_implies, implies_true, not_true_eq_false, or_false, false_or, ne_eq, jd_X13_changes, jf_X13, js_X13_forget, cs_X13_changes, jx_ck_c]
    exact hS
  · exact hS.elim
