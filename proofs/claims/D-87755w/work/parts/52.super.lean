/-! calls of the superclass's methods: Times.sort, Store.sort -/
set_option maxRecDepth 100000
section SU
variable {D : jx_D} {l : Launch} {own : String} {idx d d' kc ks : Nat} {y : MethodName} {S : jx_Sp} {w0 : Cond}
theorem jx_CS_SU {t k nL : Nat} {q : vw_C} {b : ByteArray} {ret : Option FieldType} (hM : jx_Ct l y (w0 :: lw_all) d' kc ks S) (hw0 : w0 ∈ lw_all) (hsh : ∀ as g M Po, S as g M Po → ∃ n a as', as = (t, n, a) :: as' ∧ as'.length = k) (hdd : d' < d) (hnL : nL ≤ 40)
    (hinit : Cond.initialized y.cls ∈ lw_all) (ht : 10 ≤ t) (hqt : ∀ k, jx_in t k → jx_cl (jx_bk k) = some q) (hlink : Cond.methodLink own idx y ∈ lw_all) (hsame : Cond.sameMethod y.cls y.cls y.name y.desc ∈ lw_all) (hsup : Cond.superclass own y.cls ∈ lw_all) (hinst : Cond.instanceMethod y ∈ lw_all) (hc : Cond.code y b nL ret ∈ lw_all) (hno : y.name ≠ "<init>") (hlen : jx_sg y k) : jx_CS D l own d (.invokespecial idx) (k + 1) kc ks S := by
  intro as g M Po hS
  obtain ⟨n, a, as', rfl, hl⟩ := hsh as g M Po hS
  refine jx_CR_of hM hS (by simp [hl]) hdd hnL (fun w hw => ?_) (jx_hasCode_c hc) hinit ?_
  · rcases List.mem_cons.mp hw with e | e
    · rw [e]; exact hw0
    · exact e
  · intro p e R s m args below meth c T locs cells slots M' X hexec hown hts hE hR hok f rest hf hstack hdg
    have hin := ((hok (t, n, a) List.mem_cons_self).2.1 ht).1
    exact jx_Go_SU (q := q) ht (hqt _ hin) hlink hsame hsup hinst hc hno (by rw [hl]; exact hlen) p e R s m args below meth c T locs cells slots M' X hexec hown hts hE hR hok f rest hf hstack hdg
end SU
def js_X7_sort8 : jx_Sp := fun as g M Po => match as with
  | [(68, _, _)] => Po (0, 0, 1) g M
  | _ => False
theorem jt_X7_sort8 (l : Launch) : jx_Ct l yX7_sort (ws_ yX7_sort cX7_sort 1 (some .int)) 0 0 0 js_X7_sort8 := by
  refine jx_Ct_mono (jt_X7_sort l) (fun as g M Po h => ?_)
  unfold js_X7_sort8 at h
  split at h
  · exact h
  · exact h.elim
def cs_X8_sort : jx_Cs := [(23, 1, 0, 0, js_X7_sort8)]
theorem hc_X8_sort {D : jx_D} {l : Launch} : jx_CsOK D l "LoopLane$Times" 1 cs_X8_sort := List.forall_mem_cons.mpr ⟨jx_CS_SU (t := 68) (k := 0) (y := yX7_sort) (jt_X7_sort8 l) q613 (fun as g M Po (h : js_X7_sort8 as g M Po) => by unfold js_X7_sort8 at h; split at h <;> first | exact h.elim | exact ⟨_, _, _, rfl, rfl⟩) (by decide) (by decide) q83 (by decide) (jx_in_1 rfl (by decide)) q617 q1572 q341 q612 q613 (by decide) (jx_sg_of (by decide +kernel)), fun _ h => absurd h List.not_mem_nil⟩
def js_X8_sort : jx_Sp := fun as g M Po => match as with
  | [(68, _, _)] => Po (0, 0, 2) g M
  | _ => False
set_option maxHeartbeats 4000000 in
theorem jt_X8_sort (l : Launch) : jx_Ct l yX8_sort (ws_ yX8_sort cX8_sort 1 (some .int)) 1 0 0 js_X8_sort := by
  refine jx_Ct_c (rc := 0) (by decide) rfl (fun D as g M Po hS => ?_)
  unfold js_X8_sort at hS
  split at hS
  · refine ⟨Nat.le_of_ble_eq_true rfl, ?_⟩
    refine jx_runL (o := jo_X8) (cs := cs_X8_sort) (hf := jx_nh) jo_X8_ok hc_X8_sort (jx_HK_nil rfl) (fun _ => false) 20 ?_
    simp only [jw, ju, jx_tg, Int.cast_ofNat_Int, Int.reduceAdd, Int.reduceToNat, Nat.reduceAdd, Nat.reduceMul, Nat.reduceBEq, Nat.reduceLeDiff, Int.reduceLE, Int.reduceLT, Int.reduceEq, Int.reduceNeg, Int.reduceSub, Int.reduceMul, not_false_eq_true, true_and, and_true, and_self, Bool.or_false, Bool.false_or, Bool.or_true, Bool.true_or, List.length_nil, List.length_cons, Nat.zero_le, or_true, true_or, Nat.le_refl, ↓reduceIte, Nat.reduceEqDiff, forall_const, false_and, and_false, false_implies, implies_true, not_true_eq_false, or_false, false_or, ne_eq, jd_X8_sort, js_X7_sort8, cs_X8_sort, jx_ck_c]
    exact hS
  · exact hS.elim
def js_X10_sort1 : jx_Sp := fun as g M Po => match as with
  | [(71, _, _)] => Po (0, 0, 4) g M
  | _ => False
theorem jt_X10_sort1 (l : Launch) : jx_Ct l yX10_sort (ws_ yX10_sort cX10_sort 1 (some .int)) 0 0 0 js_X10_sort1 := by
  refine jx_Ct_mono (jt_X10_sort l) (fun as g M Po h => ?_)
  unfold js_X10_sort1 at h
  split at h
  · exact h
  · exact h.elim
def cs_X11_sort : jx_Cs := [(23, 1, 0, 0, js_X10_sort1)]
theorem hc_X11_sort {D : jx_D} {l : Launch} : jx_CsOK D l "LoopLane$Store" 1 cs_X11_sort := List.forall_mem_cons.mpr ⟨jx_CS_SU (t := 71) (k := 0) (y := yX10_sort) (jt_X10_sort1 l) q597 (fun as g M Po (h : js_X10_sort1 as g M Po) => by unfold js_X10_sort1 at h; split at h <;> first | exact h.elim | exact ⟨_, _, _, rfl, rfl⟩) (by decide) (by decide) q86 (by decide) (jx_in_1 rfl (by decide)) q610 q1571 q385 q596 q597 (by decide) (jx_sg_of (by decide +kernel)), fun _ h => absurd h List.not_mem_nil⟩
def js_X11_sort : jx_Sp := fun as g M Po => match as with
  | [(71, _, _)] => Po (0, 0, 5) g M
  | _ => False
set_option maxHeartbeats 4000000 in
theorem jt_X11_sort (l : Launch) : jx_Ct l yX11_sort (ws_ yX11_sort cX11_sort 1 (some .int)) 1 0 0 js_X11_sort := by
  refine jx_Ct_c (rc := 0) (by decide) rfl (fun D as g M Po hS => ?_)
  unfold js_X11_sort at hS
  split at hS
  · refine ⟨Nat.le_of_ble_eq_true rfl, ?_⟩
    refine jx_runL (o := jo_X11) (cs := cs_X11_sort) (hf := jx_nh) jo_X11_ok hc_X11_sort (jx_HK_nil rfl) (fun _ => false) 20 ?_
    simp only [jw, ju, jx_tg, Int.cast_ofNat_Int, Int.reduceAdd, Int.reduceToNat, Nat.reduceAdd, Nat.reduceMul, Nat.reduceBEq, Nat.reduceLeDiff, Int.reduceLE, Int.reduceLT, Int.reduceEq, Int.reduceNeg, Int.reduceSub, Int.reduceMul, not_false_eq_true, true_and, and_true, and_self, Bool.or_false, Bool.false_or, Bool.or_true, Bool.true_or, List.length_nil, List.length_cons, Nat.zero_le, or_true, true_or, Nat.le_refl, ↓reduceIte, Nat.reduceEqDiff, forall_const, false_and, and_false, false_implies, implies_true, not_true_eq_false, or_false, false_or, ne_eq, jd_X11_sort, js_X10_sort1, cs_X11_sort, jx_ck_c]
    exact hS
  · exact hS.elim
