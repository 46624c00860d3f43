/-! the library's small methods -/
set_option maxRecDepth 100000
section JW
variable {D : jx_D} {l : Launch} {mt : jx_Mt} {Po : jx_Po} {pc : Nat} {ls st : List jx_A} {u : Nat × Nat} {g : jx_S} {M : jx_M}
theorem jx_s_ldcw {x : Nat} {v : Int} (hd : decode mt.2.1 pc = .ok (.ldc_w x, 3)) (hw : Cond.constant mt.1 x (Int32.ofInt v) ∈ lw_all) (h : jx_V D l mt Po (pc + 3) ls ((0, 0, v) :: st) u g M) : jx_V D l mt Po pc ls st u g M := by
  intro p e s m args below meth c C H locs lo hR hl hs hL hf h1 h2
  obtain ⟨hx, hb, -, -, -, hown, hts, -⟩ := id C
  exact lv_ldcw hx hb hown (hts _ hw) hd (h p e s m args below meth c C H locs lo hR hl (jx_ok_cons jx_ok_i hs) hL hf h1 h2)
end JW
def jb_1 (p : Int) : Int := p - jx_and (jx_ushr p 1) 1431655765
def jb_2 (p : Int) : Int := jx_and p 858993459 + jx_and (jx_ushr p 2) 858993459
def jb_3 (p : Int) : Int := jx_and (p + jx_ushr p 4) 252645135
def jb_4 (p : Int) : Int := p + jx_ushr p 8
def jb_5 (p : Int) : Int := p + jx_ushr p 16
theorem jb_ok : ∀ p : Nat, p < 256 → jx_and (jb_5 (jb_4 (jb_3 (jb_2 (jb_1 p))))) 63 = mm_bits p 8 := by decide +kernel
def js_J9_bitCount : jx_Sp := fun as g M Po => match as with
  | [(0, _, p)] => (0 ≤ p ∧ p ≤ 255) ∧ Po (0, 0, mm_bits p 8) g M
  | _ => False
set_option maxHeartbeats 4000000 in
theorem jt_J9_bitCount (l : Launch) : jx_Ct l yJ9_bitCount (ws_ yJ9_bitCount cJ9_bitCount 1 (some .int)) 0 0 0 js_J9_bitCount := by
  refine jx_Ct_c (rc := 0) (by decide) rfl (fun D as g M Po hS => ?_)
  unfold js_J9_bitCount at hS
  split at hS
  · rename_i n1 p
    obtain ⟨⟨r1, r2⟩, hP⟩ := hS
    have hb := jb_ok p.toNat (by omega)
    rw [show ((p.toNat : Nat) : Int) = p by omega] at hb
    refine ⟨Nat.le_of_ble_eq_true rfl, ?_⟩
    refine jx_runL (o := jo_J9) (cs := []) (hf := jx_nh) jo_J9_ok jx_cs0 (jx_HK_nil rfl) (fun p => p == 4) 60 ?_
    simp only [jw, ju, jx_tg, Int.cast_ofNat_Int, Int.reduceAdd, Int.reduceToNat, Nat.reduceAdd, Nat.reduceMul, Nat.reduceBEq, Nat.reduceLeDiff, Int.reduceLE, Int.reduceLT, Int.reduceEq, Int.reduceNeg, Int.reduceSub, Int.reduceMul, not_false_eq_true, true_and, and_true, and_self, Bool.or_false, Bool.false_or, Bool.or_true, Bool.true_or, List.length_nil, List.length_cons, Nat.zero_le, or_true, true_or, Nat.le_refl, ↓reduceIte, Nat.reduceEqDiff, forall_const, false_and, and_false, false_implies, implies_true, not_true_eq_false, or_false, false_or, ne_eq, jd_J9_bitCount, jf_J9]
    refine jx_s_ldcw (x := 265) (v := 1431655765) (by decide +kernel) q896 ?_
    refine jx_runL (o := jo_J9) (cs := []) (hf := jx_nh) jo_J9_ok jx_cs0 (jx_HK_nil rfl) (fun p => p == 11) 60 ?_
    simp only [jw, ju, jx_tg, Int.cast_ofNat_Int, Int.reduceAdd, Int.reduceToNat, Nat.reduceAdd, Nat.reduceMul, Nat.reduceBEq, Nat.reduceLeDiff, Int.reduceLE, Int.reduceLT, Int.reduceEq, Int.reduceNeg, Int.reduceSub, Int.reduceMul, not_false_eq_true, true_and, and_true, and_self, Bool.or_false, Bool.false_or, Bool.or_true, Bool.true_or, List.length_nil, List.length_cons, Nat.zero_le, or_true, true_or, Nat.le_refl, ↓reduceIte, Nat.reduceEqDiff, forall_const, false_and, and_false, false_implies, implies_true, not_true_eq_false, or_false, false_or, ne_eq, jd_J9_bitCount, jf_J9]
    refine jx_s_ldcw (x := 266) (v := 858993459) (by decide +kernel) q897 ?_
    refine jx_runL (o := jo_J9) (cs := []) (hf := jx_nh) jo_J9_ok jx_cs0 (jx_HK_nil rfl) (fun p => p == 18) 60 ?_
    simp only [jw, ju, jx_tg, Int.cast_ofNat_Int, Int.reduceAdd, Int.reduceToNat, Nat.reduceAdd, Nat.reduceMul, Nat.reduceBEq, Nat.reduceLeDiff, Int.reduceLE, Int.reduceLT, Int.reduceEq, Int.reduceNeg, Int.reduceSub, Int.reduceMul, not_false_eq_true, true_and, and_true, and_self, Bool.or_false, Bool.false_or, Bool.or_true, Bool.true_or, List.length_nil, List.length_cons, Nat.zero_le, or_true, true_or, Nat.le_refl, ↓reduceIte, Nat.reduceEqDiff, forall_const, false_and, and_false, false_implies, implies_true, not_true_eq_false, or_false, false_or, ne_eq, jd_J9_bitCount, jf_J9]
    refine jx_s_ldcw (x := 266) (v := 858993459) (by decide +kernel) q897 ?_
    refine jx_runL (o := jo_J9) (cs := []) (hf := jx_nh) jo_J9_ok jx_cs0 (jx_HK_nil rfl) (fun p => p == 29) 60 ?_
    simp only [jw, ju, jx_tg, Int.cast_ofNat_Int, Int.reduceAdd, Int.reduceToNat, Nat.reduceAdd, Nat.reduceMul, Nat.reduceBEq, Nat.reduceLeDiff, Int.reduceLE, Int.reduceLT, Int.reduceEq, Int.reduceNeg, Int.reduceSub, Int.reduceMul, not_false_eq_true, true_and, and_true, and_self, Bool.or_false, Bool.false_or, Bool.or_true, Bool.true_or, List.length_nil, List.length_cons, Nat.zero_le, or_true, true_or, Nat.le_refl, ↓reduceIte, Nat.reduceEqDiff, forall_const, false_and, and_false, false_implies, implies_true, not_true_eq_false, or_false, false_or, ne_eq, jd_J9_bitCount, jf_J9]
    refine jx_s_ldcw (x := 267) (v := 252645135) (by decide +kernel) q898 ?_
    refine jx_runL (o := jo_J9) (cs := []) (hf := jx_nh) jo_J9_ok jx_cs0 (jx_HK_nil rfl) (fun _ => false) 60 ?_
    simp only [jw, ju, jx_tg, Int.cast_ofNat_Int, Int.reduceAdd, Int.reduceToNat, Nat.reduceAdd, Nat.reduceMul, Nat.reduceBEq, Nat.reduceLeDiff, Int.reduceLE, Int.reduceLT, Int.reduceEq, Int.reduceNeg, Int.reduceSub, Int.reduceMul, not_false_eq_true, true_and, and_true, and_self, Bool.or_false, Bool.false_or, Bool.or_true, Bool.true_or, List.length_nil, List.length_cons, Nat.zero_le, or_true, true_or, Nat.le_refl, ↓reduceIte, Nat.reduceEqDiff, forall_const, false_and, and_false, false_implies, implies_true, not_true_eq_false, or_false, false_or, ne_eq, jd_J9_bitCount, jf_J9]
    rw [← hb] at hP
    exact hP
  · exact hS.elim
