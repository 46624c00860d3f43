/-! LoopLane.work -/
set_option maxRecDepth 100000
/-- an act works and is not refused: what it gives and what becomes of memory -/
def xw_end (g : jx_S) (M : jx_M) (x a p q r : Int) : Int := if (g.2 a).1 = 66 then M a 7 else if (g.2 a).1 = 67 then jx_ladd p q else if (g.2 a).1 = 68 then jx_lmul p q else if (g.2 a).1 = 69 then jx_ldiv p q else if (g.2 a).1 = 72 then (if p = 0 then r else q) else M (xw_z M x a) (f_place p)
def xw_put (g : jx_S) (M : jx_M) (x a p q : Int) : jx_M := if (g.2 a).1 = 71 then jx_u M (xw_z M x a) (f_place p) q else M
/-- whether it is not refused -/
def xw_ok (g : jx_S) (M : jx_M) (x a p q : Int) : Prop := ((g.2 a).1 = 69 → q ≠ 0) ∧ (((g.2 a).1 = 70 ∨ (g.2 a).1 = 71) → (0 ≤ M a 7 ∧ M a 7 < 8) ∧ 0 ≤ xw_z M x a ∧ ∃ n, g.2 (xw_z M x a) = (11, n) ∧ (0 ≤ f_place p ∧ f_place p < n))
def ja_workY : jx_Sp := fun as g M Po => match as with
  | [(80, n, a), (61, _, x), (1, _, p), (1, _, q), (1, _, r)] => xk g a n ∧ xw_ok g M x a p q ∧ Po (1, 0, xw_end g M x a p q r) g (xw_put g M x a p q)
  | _ => False
/-- how it is refused -/
def xw_fail (g : jx_S) (M : jx_M) (x a p q : Int) (Po : jx_Po) : Prop := ((g.2 a).1 = 69 → q = 0 ∧ Po (4, 4, (g.1 : Int) + 2) (g.1 + 3, g.2) M) ∧ (((g.2 a).1 = 70 ∨ (g.2 a).1 = 71) → (0 ≤ M a 7 ∧ M a 7 < 8) ∧ xw_no g M x a p Po)
def ja_workN : jx_Sp := fun as g M Po => match as with
  | [(80, n, a), (61, _, x), (1, _, p), (1, _, q), (1, _, _)] => ((69 ≤ (g.2 a).1 ∧ (g.2 a).1 ≤ 71) ∧ (g.2 a).2 = n ∧ 0 ≤ a) ∧ xw_fail g M x a p q Po
  | _ => False
theorem jz_workY {D : jx_D} {l : Launch} {d : Nat} (hd : 3 ≤ d) : jx_CS D l "LoopLane" d (jx_op 555) 5 0 0 ja_workY := by
  intro as g M Po hS
  unfold ja_workY at hS
  split at hS
  rotate_left
  · exact hS.elim
  rename_i n a n2 x n3 p n4 q n5 r
  obtain ⟨⟨hk, hn, h0⟩, hok, hP⟩ := hS
  have hkk : (g.2 a).1 = 66 ∨ (g.2 a).1 = 67 ∨ (g.2 a).1 = 68 ∨ (g.2 a).1 = 69 ∨ (g.2 a).1 = 70 ∨ (g.2 a).1 = 71 ∨ (g.2 a).1 = 72 := by omega
  rcases hkk with hc | hc | hc | hc | hc | hc | hc
  · exact jx_CR_U (y := yX6_work) (t' := 66) (k := 4) (owner := "LoopLane$Act") (b' := ByteArray.empty) (nL' := 0) (ret' := none) (jt_X6_work l) q1065 (by simp only [xw_end, xw_put, hc, Nat.reduceEqDiff, ↓reduceIte] at hP; exact hP) (by omega) (by decide) q1065 q82 (by decide) (by decide) (by decide) (hin := by rw [hc]; simp [jx_in]) hn h0 (hq := by rw [hc]; rfl) q1046 q1048 (.inr (jx_nlm q1047 rfl)) ⟨by decide, by decide⟩ q1063 q1064 (jx_sg_of (by decide +kernel)) rfl
  · exact jx_CR_U (y := yX7_work) (t' := 67) (k := 4) (owner := "LoopLane$Act") (b' := ByteArray.empty) (nL' := 0) (ret' := none) (jt_X7_work l) q1079 (by simp only [xw_end, xw_put, hc, Nat.reduceEqDiff, ↓reduceIte] at hP; exact hP) (by omega) (by decide) q1079 q83 (by decide) (by decide) (by decide) (hin := by rw [hc]; simp [jx_in]) hn h0 (hq := by rw [hc]; rfl) q1046 q1048 (.inr (jx_nlm q1047 rfl)) ⟨by decide, by decide⟩ q1077 q1078 (jx_sg_of (by decide +kernel)) rfl
  · exact jx_CR_U (y := yX8_work) (t' := 68) (k := 4) (owner := "LoopLane$Act") (b' := ByteArray.empty) (nL' := 0) (ret' := none) (jt_X8_work l) q1082 (by simp only [xw_end, xw_put, hc, Nat.reduceEqDiff, ↓reduceIte] at hP; exact hP) (by omega) (by decide) q1082 q84 (by decide) (by decide) (by decide) (hin := by rw [hc]; simp [jx_in]) hn h0 (hq := by rw [hc]; rfl) q1046 q1048 (.inr (jx_nlm q1047 rfl)) ⟨by decide, by decide⟩ q1080 q1081 (jx_sg_of (by decide +kernel)) rfl
  · exact jx_CR_U (y := yX9_work) (t' := 69) (k := 4) (owner := "LoopLane$Act") (b' := ByteArray.empty) (nL' := 0) (ret' := none) (jt_X9_workY l) q1059 (by simp only [xw_end, xw_put, hc, Nat.reduceEqDiff, ↓reduceIte] at hP; exact ⟨hok.1 hc, hP⟩) (by omega) (by decide) q1059 q85 (by decide) (by decide) (by decide) (hin := by rw [hc]; simp [jx_in]) hn h0 (hq := by rw [hc]; rfl) q1046 q1048 (.inr (jx_nlm q1047 rfl)) ⟨by decide, by decide⟩ q1057 q1058 (jx_sg_of (by decide +kernel)) rfl
  · exact jx_CR_U (y := yX10_work) (t' := 81) (k := 4) (owner := "LoopLane$Act") (b' := ByteArray.empty) (nL' := 0) (ret' := none) (jt_X10_workY l) q1051 (by simp only [xw_end, xw_put, hc, Nat.reduceEqDiff, ↓reduceIte] at hP; have ho := hok.2 (.inl hc); obtain ⟨h1, h2, n', h3, h4⟩ := ho; exact ⟨h1, h2, n', h3, h4, hP⟩) (by omega) (by decide) q1051 q86 (by decide) (by decide) (by decide) (hin := by rw [hc]; simp [jx_in]) hn h0 (hq := by rw [hc]; rfl) q1046 q1048 (.inr (jx_nlm q1047 rfl)) ⟨by decide, by decide⟩ q1049 q1050 (jx_sg_of (by decide +kernel)) rfl
  · exact jx_CR_U (y := yX11_work) (t' := 71) (k := 4) (owner := "LoopLane$Act") (b' := ByteArray.empty) (nL' := 0) (ret' := none) (jt_X11_workY l) q1068 (by simp only [xw_end, xw_put, hc, Nat.reduceEqDiff, ↓reduceIte] at hP; have ho := hok.2 (.inr hc); obtain ⟨h1, h2, n', h3, h4⟩ := ho; exact ⟨⟨hc, hn, h0⟩, h1, h2, n', h3, h4, hP⟩) (by omega) (by decide) q1068 q87 (by decide) (by decide) (by decide) (hin := by rw [hc]; simp [jx_in]) hn h0 (hq := by rw [hc]; rfl) q1046 q1048 (.inr (jx_nlm q1047 rfl)) ⟨by decide, by decide⟩ q1066 q1067 (jx_sg_of (by decide +kernel)) rfl
  · exact jx_CR_U (y := yX12_work) (t' := 72) (k := 4) (owner := "LoopLane$Act") (b' := ByteArray.empty) (nL' := 0) (ret' := none) (jt_X12_work l) q1062 (by simp only [xw_end, xw_put, hc, Nat.reduceEqDiff, ↓reduceIte] at hP; exact ⟨fun w => by rw [if_neg w] at hP; exact hP, fun w => by rw [if_pos w] at hP; exact hP⟩) (by omega) (by decide) q1062 q88 (by decide) (by decide) (by decide) (hin := by rw [hc]; simp [jx_in]) hn h0 (hq := by rw [hc]; rfl) q1046 q1048 (.inr (jx_nlm q1047 rfl)) ⟨by decide, by decide⟩ q1060 q1061 (jx_sg_of (by decide +kernel)) rfl
theorem jz_workN {D : jx_D} {l : Launch} {d : Nat} (hd : 3 ≤ d) : jx_CS D l "LoopLane" d (jx_op 555) 5 3 2000 ja_workN := by
  intro as g M Po hS
  unfold ja_workN at hS
  split at hS
  rotate_left
  · exact hS.elim
  rename_i n a n2 x n3 p n4 q n5 r
  obtain ⟨⟨hk, hn, h0⟩, hP⟩ := hS
  have hkk : (g.2 a).1 = 69 ∨ (g.2 a).1 = 70 ∨ (g.2 a).1 = 71 := by omega
  rcases hkk with hc | hc | hc
  · exact jx_CR_U (y := yX9_work) (t' := 69) (k := 4) (owner := "LoopLane$Act") (b' := ByteArray.empty) (nL' := 0) (ret' := none) (jt_X9_workN l) q1059 (hP.1 hc) (by omega) (by decide) q1059 q85 (by decide) (by decide) (by decide) (hin := by rw [hc]; simp [jx_in]) hn h0 (hq := by rw [hc]; rfl) q1046 q1048 (.inr (jx_nlm q1047 rfl)) ⟨by decide, by decide⟩ q1057 q1058 (jx_sg_of (by decide +kernel)) rfl
  · exact jx_CR_U (y := yX10_work) (t' := 81) (k := 4) (owner := "LoopLane$Act") (b' := ByteArray.empty) (nL' := 0) (ret' := none) (jt_X10_workN l) q1051 (hP.2 (.inl hc)) (by omega) (by decide) q1051 q86 (by decide) (by decide) (by decide) (hin := by rw [hc]; simp [jx_in]) hn h0 (hq := by rw [hc]; rfl) q1046 q1048 (.inr (jx_nlm q1047 rfl)) ⟨by decide, by decide⟩ q1049 q1050 (jx_sg_of (by decide +kernel)) rfl
  · exact jx_CR_U (y := yX11_work) (t' := 71) (k := 4) (owner := "LoopLane$Act") (b' := ByteArray.empty) (nL' := 0) (ret' := none) (jt_X11_workN l) q1068 (⟨⟨hc, hn, h0⟩, hP.2 (.inr hc)⟩) (by omega) (by decide) q1068 q87 (by decide) (by decide) (by decide) (hin := by rw [hc]; simp [jx_in]) hn h0 (hq := by rw [hc]; rfl) q1046 q1048 (.inr (jx_nlm q1047 rfl)) ⟨by decide, by decide⟩ q1066 q1067 (jx_sg_of (by decide +kernel)) rfl
def js_X0_workY : jx_Sp := fun as g M Po => match as with
  | [(60, _, x), (80, n, a), (1, _, p), (1, _, q), (1, _, r), (0, _, i)] => (0 ≤ i ∧ i < 3200) ∧ xk g a n ∧ xw_ok g M (x + 3) a p q ∧ Po (0, 0, 0) g (jx_u (xw_put g M (x + 3) a p q) (x + 43) i (xw_end g M (x + 3) a p q r))
  | _ => False
def cs_X0_workY : jx_Cs := [(555, 5, 0, 0, ja_workY)]
theorem hc_X0_workY {D : jx_D} {l : Launch} : jx_CsOK D l "LoopLane" 3 cs_X0_workY := List.forall_mem_cons.mpr ⟨jz_workY (by decide), fun _ h => absurd h List.not_mem_nil⟩
abbrev th_X0_work : List (Nat × Nat × Nat × Nat) := [(0, 21, 22, 189), (0, 21, 27, 191), (0, 21, 32, 193), (0, 21, 37, 195)]
theorem jh_X0_work : jx_hf th_X0_work 16 1 = some 22 ∧ jx_hf th_X0_work 16 2 = some 27 ∧ jx_hf th_X0_work 16 3 = some 32 ∧ jx_hf th_X0_work 16 4 = some 37 ∧ jx_hf th_X0_work 16 5 = none ∧ jx_hf th_X0_work 16 6 = none := by refine ⟨?_, ?_, ?_, ?_, ?_, ?_⟩ <;> rfl
theorem jk_X0_work : ∀ q ∈ th_X0_work, jx_ct q.2.2.2 := by unfold th_X0_work; simp [jx_ct]
set_option maxHeartbeats 4000000 in
theorem jt_X0_workY (l : Launch) : jx_Ct l yX0_work (wsW_ yX0_work cX0_work 10 (some .int) th_X0_work) 3 0 0 js_X0_workY := by
  refine jx_Ct_w (rc := 0) (by decide) rfl (fun D as g M Po hS => ?_)
  unfold js_X0_workY at hS
  split at hS
  · rename_i n1 x n a n3 p n4 q n5 r n6 i
    obtain ⟨hi, hk, hok, hP⟩ := hS
    refine ⟨Nat.le_of_ble_eq_true rfl, ?_⟩
    refine jx_runL (o := jo_X0) (cs := cs_X0_workY) (hf := jx_hf th_X0_work) jo_X0_ok hc_X0_workY (jx_HK_LL rfl jk_X0_work) (fun _ => false) 30 ?_
    simp only [jw, ju, jx_tg, Int.cast_ofNat_Int, Int.reduceAdd, Int.reduceToNat, Nat.reduceAdd, Nat.reduceMul, Nat.reduceBEq, Nat.reduceLeDiff, Int.reduceLE, Int.reduceLT, Int.reduceEq, Int.reduceNeg, Int.reduceSub, Int.reduceMul, not_false_eq_true, true_and, and_true, and_self, Bool.or_false, Bool.false_or, Bool.or_true, Bool.true_or, List.length_nil, List.length_cons, Nat.zero_le, or_true, true_or, Nat.le_refl, ↓reduceIte, Nat.reduceEqDiff, forall_const, false_and, and_false, false_implies, implies_true, not_true_eq_false, or_false, false_or, ne_eq, jd_X0_work, jf_X0, ja_workY, cs_X0_workY, jx_ck_c, jh_X0_work, jx_ex]
    exact ⟨hk, hok, hi, hP⟩
  · exact hS.elim
/-- why it is refused, and how many cells that takes -/
def js_X0_workN : jx_Sp := fun as g M Po => match as with
  | [(60, _, x), (80, n, a), (1, _, p), (1, _, q), (1, _, r), (0, _, i)] => (0 ≤ i ∧ i < 3200) ∧ ((69 ≤ (g.2 a).1 ∧ (g.2 a).1 ≤ 71) ∧ (g.2 a).2 = n ∧ 0 ≤ a) ∧ ((g.2 a).1 = 69 → q = 0 ∧ Po (0, 0, -8) (g.1 + 3, g.2) M) ∧
     (((g.2 a).1 = 70 ∨ (g.2 a).1 = 71) → (0 ≤ M a 7 ∧ M a 7 < 8) ∧ (xw_z M (x + 3) a < 0 → Po (0, 0, -2) (g.1 + 1, g.2) M) ∧
      (0 ≤ xw_z M (x + 3) a → (∃ n, g.2 (xw_z M (x + 3) a) = (11, n) ∧ ¬ (0 ≤ f_place p ∧ f_place p < n) ∧ Po (0, 0, -3) (g.1 + 3, g.2) M) ∨ (∃ n, g.2 (xw_z M (x + 3) a) = (10, n) ∧ Po (0, 0, -5) (g.1 + 3, g.2) M)))
  | _ => False
def cs_X0_workN : jx_Cs := [(555, 5, 3, 2000, ja_workN)]
theorem hc_X0_workN {D : jx_D} {l : Launch} : jx_CsOK D l "LoopLane" 3 cs_X0_workN := List.forall_mem_cons.mpr ⟨jz_workN (by decide), fun _ h => absurd h List.not_mem_nil⟩
set_option maxHeartbeats 4000000 in
theorem jt_X0_workN (l : Launch) : jx_Ct l yX0_work (wsW_ yX0_work cX0_work 10 (some .int) th_X0_work) 3 3 2000 js_X0_workN := by
  refine jx_Ct_w (rc := 0) (by decide) rfl (fun D as g M Po hS => ?_)
  unfold js_X0_workN at hS
  split at hS
  · rename_i n1 x n a n3 p n4 q n5 r n6 i
    obtain ⟨hi, hk, h9, h7⟩ := hS
    refine ⟨Nat.le_of_ble_eq_true rfl, ?_⟩
    refine jx_runL (o := jo_X0) (cs := cs_X0_workN) (hf := jx_hf th_X0_work) jo_X0_ok hc_X0_workN (jx_HK_LL rfl jk_X0_work) (fun _ => false) 30 ?_
    simp only [jw, ju, jx_tg, Int.cast_ofNat_Int, Int.reduceAdd, Int.reduceToNat, Nat.reduceAdd, Nat.reduceMul, Nat.reduceBEq, Nat.reduceLeDiff, Int.reduceLE, Int.reduceLT, Int.reduceEq, Int.reduceNeg, Int.reduceSub, Int.reduceMul, not_false_eq_true, true_and, and_true, and_self, Bool.or_false, Bool.false_or, Bool.or_true, Bool.true_or, List.length_nil, List.length_cons, Nat.zero_le, or_true, true_or, Nat.le_refl, ↓reduceIte, Nat.reduceEqDiff, forall_const, false_and, and_false, false_implies, implies_true, not_true_eq_false, or_false, false_or, ne_eq, jd_X0_work, jf_X0, xw_fail, xw_no, ja_workN, cs_X0_workN, jx_ck_c, jh_X0_work, jx_ex]
    refine ⟨hk, h9, fun w => ?_⟩
    obtain ⟨h1, h2, h3⟩ := h7 w
    exact ⟨h1, h2, h3⟩
  · exact hS.elim
