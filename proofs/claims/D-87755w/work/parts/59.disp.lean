/-! the acts' methods under tag 80 at LoopLane's call sites: printed by tools/gen_disp2.py -/
set_option maxRecDepth 100000
/-- an act's cell -/
def xk (g : jx_S) (a n : Int) : Prop := (66 ≤ (g.2 a).1 ∧ (g.2 a).1 ≤ 72) ∧ (g.2 a).2 = n ∧ 0 ≤ a
def ja_sort : jx_Sp := fun as g M Po => match as with
  | [(80, n, a)] => xk g a n ∧ Po (0, 0, ((g.2 a).1 : Int) - 66) g M
  | _ => False
theorem jz_sort {D : jx_D} {l : Launch} {d : Nat} (hd : 2 ≤ d) : jx_CS D l "LoopLane" d (jx_op 105) 1 0 0 ja_sort := by
  intro as g M Po hS
  unfold ja_sort at hS
  split at hS
  rotate_left
  · exact hS.elim
  rename_i n a
  obtain ⟨⟨hk, hn, h0⟩, hP⟩ := hS
  have hkk : (g.2 a).1 = 66 ∨ (g.2 a).1 = 67 ∨ (g.2 a).1 = 68 ∨ (g.2 a).1 = 69 ∨ (g.2 a).1 = 70 ∨ (g.2 a).1 = 71 ∨ (g.2 a).1 = 72 := by omega
  rcases hkk with hc | hc | hc | hc | hc | hc | hc
  · exact jx_CR_U (y := yX6_sort) (t' := 66) (k := 0) (owner := "LoopLane$Act") (b' := ByteArray.empty) (nL' := 0) (ret' := none) (jt_X6_sort l) q606 (by simp only [hc] at hP; exact hP) (by omega) (by decide) q606 q82 (by decide) (by decide) (by decide) (hin := by rw [hc]; simp [jx_in]) hn h0 (hq := by rw [hc]; rfl) q592 q594 (.inr (jx_nlm q593 rfl)) ⟨by decide, by decide⟩ q604 q605 (jx_sg_of (by decide +kernel)) rfl
  · exact jx_CR_U (y := yX7_sort) (t' := 67) (k := 0) (owner := "LoopLane$Act") (b' := ByteArray.empty) (nL' := 0) (ret' := none) (jt_X7_sort l) q613 (by simp only [hc] at hP; exact hP) (by omega) (by decide) q613 q83 (by decide) (by decide) (by decide) (hin := by rw [hc]; simp [jx_in]) hn h0 (hq := by rw [hc]; rfl) q592 q594 (.inr (jx_nlm q593 rfl)) ⟨by decide, by decide⟩ q611 q612 (jx_sg_of (by decide +kernel)) rfl
  · exact jx_CR_U (y := yX8_sort) (t' := 68) (k := 0) (owner := "LoopLane$Act") (b' := ByteArray.empty) (nL' := 0) (ret' := none) (jt_X8_sort l) q616 (by simp only [hc] at hP; exact hP) (by omega) (by decide) q616 q84 (by decide) (by decide) (by decide) (hin := by rw [hc]; simp [jx_in]) hn h0 (hq := by rw [hc]; rfl) q592 q594 (.inr (jx_nlm q593 rfl)) ⟨by decide, by decide⟩ q614 q615 (jx_sg_of (by decide +kernel)) rfl
  · exact jx_CR_U (y := yX9_sort) (t' := 69) (k := 0) (owner := "LoopLane$Act") (b' := ByteArray.empty) (nL' := 0) (ret' := none) (jt_X9_sort l) q600 (by simp only [hc] at hP; exact hP) (by omega) (by decide) q600 q85 (by decide) (by decide) (by decide) (hin := by rw [hc]; simp [jx_in]) hn h0 (hq := by rw [hc]; rfl) q592 q594 (.inr (jx_nlm q593 rfl)) ⟨by decide, by decide⟩ q598 q599 (jx_sg_of (by decide +kernel)) rfl
  · exact jx_CR_U (y := yX10_sort) (t' := 70) (k := 0) (owner := "LoopLane$Act") (b' := ByteArray.empty) (nL' := 0) (ret' := none) (jt_X10_sort l) q597 (by simp only [hc] at hP; exact hP) (by omega) (by decide) q597 q86 (by decide) (by decide) (by decide) (hin := by rw [hc]; simp [jx_in]) hn h0 (hq := by rw [hc]; rfl) q592 q594 (.inr (jx_nlm q593 rfl)) ⟨by decide, by decide⟩ q595 q596 (jx_sg_of (by decide +kernel)) rfl
  · exact jx_CR_U (y := yX11_sort) (t' := 71) (k := 0) (owner := "LoopLane$Act") (b' := ByteArray.empty) (nL' := 0) (ret' := none) (jt_X11_sort l) q609 (by simp only [hc] at hP; exact hP) (by omega) (by decide) q609 q87 (by decide) (by decide) (by decide) (hin := by rw [hc]; simp [jx_in]) hn h0 (hq := by rw [hc]; rfl) q592 q594 (.inr (jx_nlm q593 rfl)) ⟨by decide, by decide⟩ q607 q608 (jx_sg_of (by decide +kernel)) rfl
  · exact jx_CR_U (y := yX12_sort) (t' := 72) (k := 0) (owner := "LoopLane$Act") (b' := ByteArray.empty) (nL' := 0) (ret' := none) (jt_X12_sort l) q603 (by simp only [hc] at hP; exact hP) (by omega) (by decide) q603 q88 (by decide) (by decide) (by decide) (hin := by rw [hc]; simp [jx_in]) hn h0 (hq := by rw [hc]; rfl) q592 q594 (.inr (jx_nlm q593 rfl)) ⟨by decide, by decide⟩ q601 q602 (jx_sg_of (by decide +kernel)) rfl
def xs_slot (g : jx_S) (M : jx_M) (a : Int) : Int := if 70 ≤ (g.2 a).1 ∧ (g.2 a).1 ≤ 71 then M a 7 else -1
def ja_slot : jx_Sp := fun as g M Po => match as with
  | [(80, n, a)] => xk g a n ∧ Po (0, 0, xs_slot g M a) g M
  | _ => False
theorem jz_slot {D : jx_D} {l : Launch} {d : Nat} (hd : 2 ≤ d) : jx_CS D l "LoopLane" d (jx_op 132) 1 0 0 ja_slot := by
  intro as g M Po hS
  unfold ja_slot at hS
  split at hS
  rotate_left
  · exact hS.elim
  rename_i n a
  obtain ⟨⟨hk, hn, h0⟩, hP⟩ := hS
  have hkk : (g.2 a).1 = 66 ∨ (g.2 a).1 = 67 ∨ (g.2 a).1 = 68 ∨ (g.2 a).1 = 69 ∨ (g.2 a).1 = 70 ∨ (g.2 a).1 = 71 ∨ (g.2 a).1 = 72 := by omega
  rcases hkk with hc | hc | hc | hc | hc | hc | hc
  · exact jx_CR_U (y := yX5_slot) (t' := 80) (k := 0) (owner := "LoopLane$Act") (jt_X5_slot l) q587 (by simp only [xs_slot, hc, Nat.reduceLeDiff, and_self, and_false, false_and, and_true, true_and, ↓reduceIte] at hP; exact hP) (by omega) (by decide) q587 q81 (by decide) (by decide) (by decide) (hin := by rw [hc]; simp [jx_in]) hn h0 (hq := by rw [hc]; rfl) q575 q577 (.inl ⟨q576, q587⟩) ⟨by decide, by decide⟩ q583 q576 (jx_sg_of (by decide +kernel)) rfl
  · exact jx_CR_U (y := yX5_slot) (t' := 80) (k := 0) (owner := "LoopLane$Act") (jt_X5_slot l) q587 (by simp only [xs_slot, hc, Nat.reduceLeDiff, and_self, and_false, false_and, and_true, true_and, ↓reduceIte] at hP; exact hP) (by omega) (by decide) q587 q81 (by decide) (by decide) (by decide) (hin := by rw [hc]; simp [jx_in]) hn h0 (hq := by rw [hc]; rfl) q575 q577 (.inl ⟨q576, q587⟩) ⟨by decide, by decide⟩ q585 q576 (jx_sg_of (by decide +kernel)) rfl
  · exact jx_CR_U (y := yX5_slot) (t' := 80) (k := 0) (owner := "LoopLane$Act") (jt_X5_slot l) q587 (by simp only [xs_slot, hc, Nat.reduceLeDiff, and_self, and_false, false_and, and_true, true_and, ↓reduceIte] at hP; exact hP) (by omega) (by decide) q587 q81 (by decide) (by decide) (by decide) (hin := by rw [hc]; simp [jx_in]) hn h0 (hq := by rw [hc]; rfl) q575 q577 (.inl ⟨q576, q587⟩) ⟨by decide, by decide⟩ q586 q576 (jx_sg_of (by decide +kernel)) rfl
  · exact jx_CR_U (y := yX5_slot) (t' := 80) (k := 0) (owner := "LoopLane$Act") (jt_X5_slot l) q587 (by simp only [xs_slot, hc, Nat.reduceLeDiff, and_self, and_false, false_and, and_true, true_and, ↓reduceIte] at hP; exact hP) (by omega) (by decide) q587 q81 (by decide) (by decide) (by decide) (hin := by rw [hc]; simp [jx_in]) hn h0 (hq := by rw [hc]; rfl) q575 q577 (.inl ⟨q576, q587⟩) ⟨by decide, by decide⟩ q581 q576 (jx_sg_of (by decide +kernel)) rfl
  · exact jx_CR_U (y := yX10_slot) (t' := 81) (k := 0) (owner := "LoopLane$Act") (jt_X10_slot l) q580 (by simp only [xs_slot, hc, Nat.reduceLeDiff, and_self, and_false, false_and, and_true, true_and, ↓reduceIte] at hP; exact hP) (by omega) (by decide) q580 q86 (by decide) (by decide) (by decide) (hin := by rw [hc]; simp [jx_in]) hn h0 (hq := by rw [hc]; rfl) q575 q577 (.inl ⟨q576, q587⟩) ⟨by decide, by decide⟩ q578 q579 (jx_sg_of (by decide +kernel)) rfl
  · exact jx_CR_U (y := yX10_slot) (t' := 81) (k := 0) (owner := "LoopLane$Act") (jt_X10_slot l) q580 (by simp only [xs_slot, hc, Nat.reduceLeDiff, and_self, and_false, false_and, and_true, true_and, ↓reduceIte] at hP; exact hP) (by omega) (by decide) q580 q86 (by decide) (by decide) (by decide) (hin := by rw [hc]; simp [jx_in]) hn h0 (hq := by rw [hc]; rfl) q575 q577 (.inl ⟨q576, q587⟩) ⟨by decide, by decide⟩ q584 q579 (jx_sg_of (by decide +kernel)) rfl
  · exact jx_CR_U (y := yX5_slot) (t' := 80) (k := 0) (owner := "LoopLane$Act") (jt_X5_slot l) q587 (by simp only [xs_slot, hc, Nat.reduceLeDiff, and_self, and_false, false_and, and_true, true_and, ↓reduceIte] at hP; exact hP) (by omega) (by decide) q587 q81 (by decide) (by decide) (by decide) (hin := by rw [hc]; simp [jx_in]) hn h0 (hq := by rw [hc]; rfl) q575 q577 (.inl ⟨q576, q587⟩) ⟨by decide, by decide⟩ q582 q576 (jx_sg_of (by decide +kernel)) rfl
def xs_ref (g : jx_S) (a : Int) : Int := if 69 ≤ (g.2 a).1 ∧ (g.2 a).1 ≤ 71 then 1 else 0
def ja_isRefused : jx_Sp := fun as g M Po => match as with
  | [(80, n, a)] => xk g a n ∧ Po (0, 0, xs_ref g a) g M
  | _ => False
theorem jz_isRefused {D : jx_D} {l : Launch} {d : Nat} (hd : 2 ≤ d) : jx_CS D l "LoopLane" d (jx_op 153) 1 0 0 ja_isRefused := by
  intro as g M Po hS
  unfold ja_isRefused at hS
  split at hS
  rotate_left
  · exact hS.elim
  rename_i n a
  obtain ⟨⟨hk, hn, h0⟩, hP⟩ := hS
  have hkk : (g.2 a).1 = 66 ∨ (g.2 a).1 = 67 ∨ (g.2 a).1 = 68 ∨ (g.2 a).1 = 69 ∨ (g.2 a).1 = 70 ∨ (g.2 a).1 = 71 ∨ (g.2 a).1 = 72 := by omega
  rcases hkk with hc | hc | hc | hc | hc | hc | hc
  · exact jx_CR_U (y := yX5_isRefused) (t' := 80) (k := 0) (owner := "LoopLane$Act") (jt_X5_isRefused l) q636 (by simp only [xs_ref, hc, Nat.reduceLeDiff, and_self, and_false, false_and, and_true, true_and, ↓reduceIte] at hP; exact hP) (by omega) (by decide) q636 q81 (by decide) (by decide) (by decide) (hin := by rw [hc]; simp [jx_in]) hn h0 (hq := by rw [hc]; rfl) q622 q624 (.inl ⟨q623, q636⟩) ⟨by decide, by decide⟩ q632 q623 (jx_sg_of (by decide +kernel)) rfl
  · exact jx_CR_U (y := yX5_isRefused) (t' := 80) (k := 0) (owner := "LoopLane$Act") (jt_X5_isRefused l) q636 (by simp only [xs_ref, hc, Nat.reduceLeDiff, and_self, and_false, false_and, and_true, true_and, ↓reduceIte] at hP; exact hP) (by omega) (by decide) q636 q81 (by decide) (by decide) (by decide) (hin := by rw [hc]; simp [jx_in]) hn h0 (hq := by rw [hc]; rfl) q622 q624 (.inl ⟨q623, q636⟩) ⟨by decide, by decide⟩ q634 q623 (jx_sg_of (by decide +kernel)) rfl
  · exact jx_CR_U (y := yX5_isRefused) (t' := 80) (k := 0) (owner := "LoopLane$Act") (jt_X5_isRefused l) q636 (by simp only [xs_ref, hc, Nat.reduceLeDiff, and_self, and_false, false_and, and_true, true_and, ↓reduceIte] at hP; exact hP) (by omega) (by decide) q636 q81 (by decide) (by decide) (by decide) (hin := by rw [hc]; simp [jx_in]) hn h0 (hq := by rw [hc]; rfl) q622 q624 (.inl ⟨q623, q636⟩) ⟨by decide, by decide⟩ q635 q623 (jx_sg_of (by decide +kernel)) rfl
  · exact jx_CR_U (y := yX9_isRefused) (t' := 69) (k := 0) (owner := "LoopLane$Act") (jt_X9_isRefused l) q630 (by simp only [xs_ref, hc, Nat.reduceLeDiff, and_self, and_false, false_and, and_true, true_and, ↓reduceIte] at hP; exact hP) (by omega) (by decide) q630 q85 (by decide) (by decide) (by decide) (hin := by rw [hc]; simp [jx_in]) hn h0 (hq := by rw [hc]; rfl) q622 q624 (.inl ⟨q623, q636⟩) ⟨by decide, by decide⟩ q628 q629 (jx_sg_of (by decide +kernel)) rfl
  · exact jx_CR_U (y := yX10_isRefused) (t' := 81) (k := 0) (owner := "LoopLane$Act") (jt_X10_isRefused l) q627 (by simp only [xs_ref, hc, Nat.reduceLeDiff, and_self, and_false, false_and, and_true, true_and, ↓reduceIte] at hP; exact hP) (by omega) (by decide) q627 q86 (by decide) (by decide) (by decide) (hin := by rw [hc]; simp [jx_in]) hn h0 (hq := by rw [hc]; rfl) q622 q624 (.inl ⟨q623, q636⟩) ⟨by decide, by decide⟩ q625 q626 (jx_sg_of (by decide +kernel)) rfl
  · exact jx_CR_U (y := yX10_isRefused) (t' := 81) (k := 0) (owner := "LoopLane$Act") (jt_X10_isRefused l) q627 (by simp only [xs_ref, hc, Nat.reduceLeDiff, and_self, and_false, false_and, and_true, true_and, ↓reduceIte] at hP; exact hP) (by omega) (by decide) q627 q86 (by decide) (by decide) (by decide) (hin := by rw [hc]; simp [jx_in]) hn h0 (hq := by rw [hc]; rfl) q622 q624 (.inl ⟨q623, q636⟩) ⟨by decide, by decide⟩ q633 q626 (jx_sg_of (by decide +kernel)) rfl
  · exact jx_CR_U (y := yX5_isRefused) (t' := 80) (k := 0) (owner := "LoopLane$Act") (jt_X5_isRefused l) q636 (by simp only [xs_ref, hc, Nat.reduceLeDiff, and_self, and_false, false_and, and_true, true_and, ↓reduceIte] at hP; exact hP) (by omega) (by decide) q636 q81 (by decide) (by decide) (by decide) (hin := by rw [hc]; simp [jx_in]) hn h0 (hq := by rw [hc]; rfl) q622 q624 (.inl ⟨q623, q636⟩) ⟨by decide, by decide⟩ q631 q623 (jx_sg_of (by decide +kernel)) rfl
def ja_bits : jx_Sp := fun as g M Po => match as with
  | [(80, n, a)] => xk g a n ∧ (0 ≤ M a 2 ∧ M a 2 ≤ 255) ∧ Po (0, 0, mm_bits (M a 2) 8) g M
  | _ => False
theorem jz_bits {D : jx_D} {l : Launch} {d : Nat} (hd : 2 ≤ d) : jx_CS D l "LoopLane" d (jx_op 336) 1 0 0 ja_bits := by
  intro as g M Po hS
  unfold ja_bits at hS
  split at hS
  rotate_left
  · exact hS.elim
  rename_i n a
  obtain ⟨⟨hk, hn, h0⟩, hP⟩ := hS
  have hkk : (g.2 a).1 = 66 ∨ (g.2 a).1 = 67 ∨ (g.2 a).1 = 68 ∨ (g.2 a).1 = 69 ∨ (g.2 a).1 = 70 ∨ (g.2 a).1 = 71 ∨ (g.2 a).1 = 72 := by omega
  rcases hkk with hc | hc | hc | hc | hc | hc | hc
  · exact jx_CR_U (y := yX5_bits) (t' := 80) (k := 0) (owner := "LoopLane$Act") (jt_X5_bits l) q892 (hP) (by omega) (by decide) q892 q81 (by decide) (by decide) (by decide) (hin := by rw [hc]; simp [jx_in]) hn h0 (hq := by rw [hc]; rfl) q882 q884 (.inl ⟨q883, q892⟩) ⟨by decide, by decide⟩ q888 q883 (jx_sg_of (by decide +kernel)) rfl
  · exact jx_CR_U (y := yX5_bits) (t' := 80) (k := 0) (owner := "LoopLane$Act") (jt_X5_bits l) q892 (hP) (by omega) (by decide) q892 q81 (by decide) (by decide) (by decide) (hin := by rw [hc]; simp [jx_in]) hn h0 (hq := by rw [hc]; rfl) q882 q884 (.inl ⟨q883, q892⟩) ⟨by decide, by decide⟩ q890 q883 (jx_sg_of (by decide +kernel)) rfl
  · exact jx_CR_U (y := yX5_bits) (t' := 80) (k := 0) (owner := "LoopLane$Act") (jt_X5_bits l) q892 (hP) (by omega) (by decide) q892 q81 (by decide) (by decide) (by decide) (hin := by rw [hc]; simp [jx_in]) hn h0 (hq := by rw [hc]; rfl) q882 q884 (.inl ⟨q883, q892⟩) ⟨by decide, by decide⟩ q891 q883 (jx_sg_of (by decide +kernel)) rfl
  · exact jx_CR_U (y := yX5_bits) (t' := 80) (k := 0) (owner := "LoopLane$Act") (jt_X5_bits l) q892 (hP) (by omega) (by decide) q892 q81 (by decide) (by decide) (by decide) (hin := by rw [hc]; simp [jx_in]) hn h0 (hq := by rw [hc]; rfl) q882 q884 (.inl ⟨q883, q892⟩) ⟨by decide, by decide⟩ q886 q883 (jx_sg_of (by decide +kernel)) rfl
  · exact jx_CR_U (y := yX5_bits) (t' := 80) (k := 0) (owner := "LoopLane$Act") (jt_X5_bits l) q892 (hP) (by omega) (by decide) q892 q81 (by decide) (by decide) (by decide) (hin := by rw [hc]; simp [jx_in]) hn h0 (hq := by rw [hc]; rfl) q882 q884 (.inl ⟨q883, q892⟩) ⟨by decide, by decide⟩ q885 q883 (jx_sg_of (by decide +kernel)) rfl
  · exact jx_CR_U (y := yX5_bits) (t' := 80) (k := 0) (owner := "LoopLane$Act") (jt_X5_bits l) q892 (hP) (by omega) (by decide) q892 q81 (by decide) (by decide) (by decide) (hin := by rw [hc]; simp [jx_in]) hn h0 (hq := by rw [hc]; rfl) q882 q884 (.inl ⟨q883, q892⟩) ⟨by decide, by decide⟩ q889 q883 (jx_sg_of (by decide +kernel)) rfl
  · exact jx_CR_U (y := yX5_bits) (t' := 80) (k := 0) (owner := "LoopLane$Act") (jt_X5_bits l) q892 (hP) (by omega) (by decide) q892 q81 (by decide) (by decide) (by decide) (hin := by rw [hc]; simp [jx_in]) hn h0 (hq := by rw [hc]; rfl) q882 q884 (.inl ⟨q883, q892⟩) ⟨by decide, by decide⟩ q887 q883 (jx_sg_of (by decide +kernel)) rfl
def xk3 (g : jx_S) (a n : Int) : Prop := (67 ≤ (g.2 a).1 ∧ (g.2 a).1 ≤ 69) ∧ (g.2 a).2 = n ∧ 0 ≤ a
def xu_begin (M : jx_M) (a n : Int) : jx_M := jx_u (jx_u (jx_u (jx_u (jx_u M a 0 1) a 1 0) a 2 1) a 3 0) a 4 n
def xu_take (M : jx_M) (a i x t : Int) : jx_M := jx_u (jx_u M (a + 1) i x) (a + 2) i t
def ja_beginA : jx_Sp := fun as g M Po => match as with
  | [(80, n, a), (0, _, m)] => ((66 ≤ (g.2 a).1 ∧ (g.2 a).1 ≤ 72) ∧ (g.2 a).2 = n ∧ 0 ≤ a) ∧ Po (3, 0, 0) g (xu_begin M a m)
  | _ => False
theorem jz_beginA {D : jx_D} {l : Launch} {d : Nat} (hd : 2 ≤ d) : jx_CS D l "LoopLane" d (jx_op 1236) 2 0 0 ja_beginA := by
  intro as g M Po hS
  unfold ja_beginA at hS
  split at hS
  rotate_left
  · exact hS.elim
  rename_i n a n1 m
  obtain ⟨⟨hk, hn, h0⟩, hP⟩ := hS
  have hkk : (g.2 a).1 = 66 ∨ (g.2 a).1 = 67 ∨ (g.2 a).1 = 68 ∨ (g.2 a).1 = 69 ∨ (g.2 a).1 = 70 ∨ (g.2 a).1 = 71 ∨ (g.2 a).1 = 72 := by omega
  rcases hkk with hc | hc | hc | hc | hc | hc | hc
  · exact jx_CR_U (y := yX5_begin) (t' := 80) (k := 1) (owner := "LoopLane$Act") (jt_X5_begin l) q558 (hP) (by omega) (by decide) q558 q81 (by decide) (by decide) (by decide) (hin := by rw [hc]; simp [jx_in]) hn h0 (hq := by rw [hc]; rfl) q663 q1573 (.inl ⟨q557, q558⟩) ⟨by decide, by decide⟩ q1577 q557 (jx_sg_of (by decide +kernel)) rfl
  · exact jx_CR_U (y := yX5_begin) (t' := 80) (k := 1) (owner := "LoopLane$Act") (jt_X5_begin l) q558 (hP) (by omega) (by decide) q558 q81 (by decide) (by decide) (by decide) (hin := by rw [hc]; simp [jx_in]) hn h0 (hq := by rw [hc]; rfl) q663 q1573 (.inl ⟨q557, q558⟩) ⟨by decide, by decide⟩ q1579 q557 (jx_sg_of (by decide +kernel)) rfl
  · exact jx_CR_U (y := yX5_begin) (t' := 80) (k := 1) (owner := "LoopLane$Act") (jt_X5_begin l) q558 (hP) (by omega) (by decide) q558 q81 (by decide) (by decide) (by decide) (hin := by rw [hc]; simp [jx_in]) hn h0 (hq := by rw [hc]; rfl) q663 q1573 (.inl ⟨q557, q558⟩) ⟨by decide, by decide⟩ q1580 q557 (jx_sg_of (by decide +kernel)) rfl
  · exact jx_CR_U (y := yX5_begin) (t' := 80) (k := 1) (owner := "LoopLane$Act") (jt_X5_begin l) q558 (hP) (by omega) (by decide) q558 q81 (by decide) (by decide) (by decide) (hin := by rw [hc]; simp [jx_in]) hn h0 (hq := by rw [hc]; rfl) q663 q1573 (.inl ⟨q557, q558⟩) ⟨by decide, by decide⟩ q1575 q557 (jx_sg_of (by decide +kernel)) rfl
  · exact jx_CR_U (y := yX5_begin) (t' := 80) (k := 1) (owner := "LoopLane$Act") (jt_X5_begin l) q558 (hP) (by omega) (by decide) q558 q81 (by decide) (by decide) (by decide) (hin := by rw [hc]; simp [jx_in]) hn h0 (hq := by rw [hc]; rfl) q663 q1573 (.inl ⟨q557, q558⟩) ⟨by decide, by decide⟩ q1574 q557 (jx_sg_of (by decide +kernel)) rfl
  · exact jx_CR_U (y := yX5_begin) (t' := 80) (k := 1) (owner := "LoopLane$Act") (jt_X5_begin l) q558 (hP) (by omega) (by decide) q558 q81 (by decide) (by decide) (by decide) (hin := by rw [hc]; simp [jx_in]) hn h0 (hq := by rw [hc]; rfl) q663 q1573 (.inl ⟨q557, q558⟩) ⟨by decide, by decide⟩ q1578 q557 (jx_sg_of (by decide +kernel)) rfl
  · exact jx_CR_U (y := yX5_begin) (t' := 80) (k := 1) (owner := "LoopLane$Act") (jt_X5_begin l) q558 (hP) (by omega) (by decide) q558 q81 (by decide) (by decide) (by decide) (hin := by rw [hc]; simp [jx_in]) hn h0 (hq := by rw [hc]; rfl) q663 q1573 (.inl ⟨q557, q558⟩) ⟨by decide, by decide⟩ q1576 q557 (jx_sg_of (by decide +kernel)) rfl
def ja_takeA : jx_Sp := fun as g M Po => match as with
  | [(80, n, a), (0, _, i), (0, _, x), (0, _, t)] => ((66 ≤ (g.2 a).1 ∧ (g.2 a).1 ≤ 72) ∧ (g.2 a).2 = n ∧ 0 ≤ a) ∧ (0 ≤ i ∧ i < 3) ∧ Po (3, 0, 0) g (xu_take M a i x t)
  | _ => False
theorem jz_takeA {D : jx_D} {l : Launch} {d : Nat} (hd : 2 ≤ d) : jx_CS D l "LoopLane" d (jx_op 1239) 4 0 0 ja_takeA := by
  intro as g M Po hS
  unfold ja_takeA at hS
  split at hS
  rotate_left
  · exact hS.elim
  rename_i n a n1 i n2 x n3 t
  obtain ⟨⟨hk, hn, h0⟩, hP⟩ := hS
  have hkk : (g.2 a).1 = 66 ∨ (g.2 a).1 = 67 ∨ (g.2 a).1 = 68 ∨ (g.2 a).1 = 69 ∨ (g.2 a).1 = 70 ∨ (g.2 a).1 = 71 ∨ (g.2 a).1 = 72 := by omega
  rcases hkk with hc | hc | hc | hc | hc | hc | hc
  · exact jx_CR_U (y := yX5_take) (t' := 80) (k := 3) (owner := "LoopLane$Act") (jt_X5_take l) q674 (hP) (by omega) (by decide) q674 q81 (by decide) (by decide) (by decide) (hin := by rw [hc]; simp [jx_in]) hn h0 (hq := by rw [hc]; rfl) q664 q666 (.inl ⟨q665, q674⟩) ⟨by decide, by decide⟩ q670 q665 (jx_sg_of (by decide +kernel)) rfl
  · exact jx_CR_U (y := yX5_take) (t' := 80) (k := 3) (owner := "LoopLane$Act") (jt_X5_take l) q674 (hP) (by omega) (by decide) q674 q81 (by decide) (by decide) (by decide) (hin := by rw [hc]; simp [jx_in]) hn h0 (hq := by rw [hc]; rfl) q664 q666 (.inl ⟨q665, q674⟩) ⟨by decide, by decide⟩ q672 q665 (jx_sg_of (by decide +kernel)) rfl
  · exact jx_CR_U (y := yX5_take) (t' := 80) (k := 3) (owner := "LoopLane$Act") (jt_X5_take l) q674 (hP) (by omega) (by decide) q674 q81 (by decide) (by decide) (by decide) (hin := by rw [hc]; simp [jx_in]) hn h0 (hq := by rw [hc]; rfl) q664 q666 (.inl ⟨q665, q674⟩) ⟨by decide, by decide⟩ q673 q665 (jx_sg_of (by decide +kernel)) rfl
  · exact jx_CR_U (y := yX5_take) (t' := 80) (k := 3) (owner := "LoopLane$Act") (jt_X5_take l) q674 (hP) (by omega) (by decide) q674 q81 (by decide) (by decide) (by decide) (hin := by rw [hc]; simp [jx_in]) hn h0 (hq := by rw [hc]; rfl) q664 q666 (.inl ⟨q665, q674⟩) ⟨by decide, by decide⟩ q668 q665 (jx_sg_of (by decide +kernel)) rfl
  · exact jx_CR_U (y := yX5_take) (t' := 80) (k := 3) (owner := "LoopLane$Act") (jt_X5_take l) q674 (hP) (by omega) (by decide) q674 q81 (by decide) (by decide) (by decide) (hin := by rw [hc]; simp [jx_in]) hn h0 (hq := by rw [hc]; rfl) q664 q666 (.inl ⟨q665, q674⟩) ⟨by decide, by decide⟩ q667 q665 (jx_sg_of (by decide +kernel)) rfl
  · exact jx_CR_U (y := yX5_take) (t' := 80) (k := 3) (owner := "LoopLane$Act") (jt_X5_take l) q674 (hP) (by omega) (by decide) q674 q81 (by decide) (by decide) (by decide) (hin := by rw [hc]; simp [jx_in]) hn h0 (hq := by rw [hc]; rfl) q664 q666 (.inl ⟨q665, q674⟩) ⟨by decide, by decide⟩ q671 q665 (jx_sg_of (by decide +kernel)) rfl
  · exact jx_CR_U (y := yX5_take) (t' := 80) (k := 3) (owner := "LoopLane$Act") (jt_X5_take l) q674 (hP) (by omega) (by decide) q674 q81 (by decide) (by decide) (by decide) (hin := by rw [hc]; simp [jx_in]) hn h0 (hq := by rw [hc]; rfl) q664 q666 (.inl ⟨q665, q674⟩) ⟨by decide, by decide⟩ q669 q665 (jx_sg_of (by decide +kernel)) rfl
def ja_beginP : jx_Sp := fun as g M Po => match as with
  | [(66, n, a), (0, _, m)] => ((66 ≤ (g.2 a).1 ∧ (g.2 a).1 ≤ 66) ∧ (g.2 a).2 = n ∧ 0 ≤ a) ∧ Po (3, 0, 0) g (xu_begin M a m)
  | _ => False
theorem jz_beginP {D : jx_D} {l : Launch} {d : Nat} (hd : 2 ≤ d) : jx_CS D l "LoopLane" d (jx_op 1170) 2 0 0 ja_beginP := by
  intro as g M Po hS
  unfold ja_beginP at hS
  split at hS
  rotate_left
  · exact hS.elim
  rename_i n a n1 m
  obtain ⟨⟨hk, hn, h0⟩, hP⟩ := hS
  have hkk : (g.2 a).1 = 66 := by omega
  have hc := hkk
  · exact jx_CR_U (y := yX5_begin) (t' := 80) (k := 1) (owner := "LoopLane$Act") (jt_X5_begin l) q558 (hP) (by omega) (by decide) q558 q81 (by decide) (by decide) (by decide) (hin := by rw [hc]; simp [jx_in]) hn h0 (hq := by rw [hc]; rfl) q553 q554 (.inl ⟨q557, q558⟩) ⟨by decide, by decide⟩ q556 q557 (jx_sg_of (by decide +kernel)) rfl
def ja_beginF : jx_Sp := fun as g M Po => match as with
  | [(70, n, a), (0, _, m)] => ((70 ≤ (g.2 a).1 ∧ (g.2 a).1 ≤ 70) ∧ (g.2 a).2 = n ∧ 0 ≤ a) ∧ Po (3, 0, 0) g (xu_begin M a m)
  | _ => False
theorem jz_beginF {D : jx_D} {l : Launch} {d : Nat} (hd : 2 ≤ d) : jx_CS D l "LoopLane" d (jx_op 1266) 2 0 0 ja_beginF := by
  intro as g M Po hS
  unfold ja_beginF at hS
  split at hS
  rotate_left
  · exact hS.elim
  rename_i n a n1 m
  obtain ⟨⟨hk, hn, h0⟩, hP⟩ := hS
  have hkk : (g.2 a).1 = 70 := by omega
  have hc := hkk
  · exact jx_CR_U (y := yX5_begin) (t' := 80) (k := 1) (owner := "LoopLane$Act") (jt_X5_begin l) q558 (hP) (by omega) (by decide) q558 q81 (by decide) (by decide) (by decide) (hin := by rw [hc]; simp [jx_in]) hn h0 (hq := by rw [hc]; rfl) q680 q681 (.inl ⟨q557, q558⟩) ⟨by decide, by decide⟩ q682 q557 (jx_sg_of (by decide +kernel)) rfl
def ja_takeF : jx_Sp := fun as g M Po => match as with
  | [(70, n, a), (0, _, i), (0, _, x), (0, _, t)] => ((70 ≤ (g.2 a).1 ∧ (g.2 a).1 ≤ 70) ∧ (g.2 a).2 = n ∧ 0 ≤ a) ∧ (0 ≤ i ∧ i < 3) ∧ Po (3, 0, 0) g (xu_take M a i x t)
  | _ => False
theorem jz_takeF {D : jx_D} {l : Launch} {d : Nat} (hd : 2 ≤ d) : jx_CS D l "LoopLane" d (jx_op 1275) 4 0 0 ja_takeF := by
  intro as g M Po hS
  unfold ja_takeF at hS
  split at hS
  rotate_left
  · exact hS.elim
  rename_i n a n1 i n2 x n3 t
  obtain ⟨⟨hk, hn, h0⟩, hP⟩ := hS
  have hkk : (g.2 a).1 = 70 := by omega
  have hc := hkk
  · exact jx_CR_U (y := yX5_take) (t' := 80) (k := 3) (owner := "LoopLane$Act") (jt_X5_take l) q674 (hP) (by omega) (by decide) q674 q81 (by decide) (by decide) (by decide) (hin := by rw [hc]; simp [jx_in]) hn h0 (hq := by rw [hc]; rfl) q684 q685 (.inl ⟨q665, q674⟩) ⟨by decide, by decide⟩ q687 q665 (jx_sg_of (by decide +kernel)) rfl
def ja_beginS : jx_Sp := fun as g M Po => match as with
  | [(71, n, a), (0, _, m)] => ((71 ≤ (g.2 a).1 ∧ (g.2 a).1 ≤ 71) ∧ (g.2 a).2 = n ∧ 0 ≤ a) ∧ Po (3, 0, 0) g (xu_begin M a m)
  | _ => False
theorem jz_beginS {D : jx_D} {l : Launch} {d : Nat} (hd : 2 ≤ d) : jx_CS D l "LoopLane" d (jx_op 1266) 2 0 0 ja_beginS := by
  intro as g M Po hS
  unfold ja_beginS at hS
  split at hS
  rotate_left
  · exact hS.elim
  rename_i n a n1 m
  obtain ⟨⟨hk, hn, h0⟩, hP⟩ := hS
  have hkk : (g.2 a).1 = 71 := by omega
  have hc := hkk
  · exact jx_CR_U (y := yX5_begin) (t' := 80) (k := 1) (owner := "LoopLane$Act") (jt_X5_begin l) q558 (hP) (by omega) (by decide) q558 q81 (by decide) (by decide) (by decide) (hin := by rw [hc]; simp [jx_in]) hn h0 (hq := by rw [hc]; rfl) q680 q681 (.inl ⟨q557, q558⟩) ⟨by decide, by decide⟩ q683 q557 (jx_sg_of (by decide +kernel)) rfl
def ja_takeS : jx_Sp := fun as g M Po => match as with
  | [(71, n, a), (0, _, i), (0, _, x), (0, _, t)] => ((71 ≤ (g.2 a).1 ∧ (g.2 a).1 ≤ 71) ∧ (g.2 a).2 = n ∧ 0 ≤ a) ∧ (0 ≤ i ∧ i < 3) ∧ Po (3, 0, 0) g (xu_take M a i x t)
  | _ => False
theorem jz_takeS {D : jx_D} {l : Launch} {d : Nat} (hd : 2 ≤ d) : jx_CS D l "LoopLane" d (jx_op 1275) 4 0 0 ja_takeS := by
  intro as g M Po hS
  unfold ja_takeS at hS
  split at hS
  rotate_left
  · exact hS.elim
  rename_i n a n1 i n2 x n3 t
  obtain ⟨⟨hk, hn, h0⟩, hP⟩ := hS
  have hkk : (g.2 a).1 = 71 := by omega
  have hc := hkk
  · exact jx_CR_U (y := yX5_take) (t' := 80) (k := 3) (owner := "LoopLane$Act") (jt_X5_take l) q674 (hP) (by omega) (by decide) q674 q81 (by decide) (by decide) (by decide) (hin := by rw [hc]; simp [jx_in]) hn h0 (hq := by rw [hc]; rfl) q684 q685 (.inl ⟨q665, q674⟩) ⟨by decide, by decide⟩ q688 q665 (jx_sg_of (by decide +kernel)) rfl
