/-! the reference, 7: the face, by f_.. -/
set_option maxRecDepth 100000
theorem jx_Ct_mono {l : Launch} {y : MethodName} {ws : List Cond} {d kc ks : Nat} {S S' : jx_Sp} (hc : jx_Ct l y ws d kc ks S) (h : ∀ as g M Po, S' as g M Po → S as g M Po) : jx_Ct l y ws d kc ks S' :=
  fun D as g M Po hS => hc D as g M Po (h as g M Po hS)
theorem mK_ite {p : Prop} [Decidable p] {y : Int} {g : jx_S} {M : jx_M} {Po : jx_Po} {t : Nat} {a b : mR} : mK y g M Po t (if p then a else b).1 (if p then a else b).2 ↔ (p → mK y g M Po t a.1 a.2) ∧ (¬ p → mK y g M Po t b.1 b.2) := mm_ite
theorem mK_of {y r : Int} {g : jx_S} {M M' S' : jx_M} {Po : jx_Po} {t : Nat} (h : mK y g M Po t r S') (e : mY M' y = S') (f : mFr y M M') : Po (t, 0, r) g M' := h _ (mQ_eq e) f
theorem mK_no {y r w : Int} {g : jx_S} {M : jx_M} {Po : jx_Po} {t : Nat} (h : mK y g M Po t r (mu_no (mY M y) 0 w)) : Po (t, 0, r) g (mu_no M y w) := mK_of h mY_no (mFr_no mFr_rf)
theorem mK_s {y r : Int} {g : jx_S} {M : jx_M} {Po : jx_Po} {t : Nat} (h : mK y g M Po t r (mY M y)) : Po (t, 0, r) g M := mK_of h rfl mFr_rf
theorem mu_changes_f {M : jx_M} {y k : Int} (h : k < 27 ∨ (27 < k ∧ k < 38)) : mu_changes M y y k = M y k := by
  unfold mu_changes mu_forget
  simp only [jx_u]
  rw [if_neg (by omega), if_neg (by omega), if_neg (by omega), if_neg (by omega), if_neg (by omega), if_neg (by omega), if_neg (by omega), if_neg (by omega)]
theorem mK_adds {y r a w s x dx z dz : Int} {g : jx_S} {M : jx_M} {Po : jx_Po} {t : Nat} (h : mK y g M Po t r (mu_adds (mY M y) 0 a w s x dx z dz)) : Po (t, 0, r) g (mu_adds M y a w s x dx z dz) := mK_of h mY_adds (mFr_adds mFr_rf)
def jp_X13_put : jx_Sp := fun as g M Po => match as with
  | [(73, _, y), (1, _, v)] => (0 ≤ M y 9 ∧ M y 9 ≤ 16) ∧ mK y g M Po 0 (f_put v (mY M y)).1 (f_put v (mY M y)).2
  | _ => False
set_option maxHeartbeats 4000000 in
theorem jq_X13_put (l : Launch) : jx_Ct l yX13_put (ws_ yX13_put cX13_put 4 (some .int)) 3 0 0 jp_X13_put := by
  refine jx_Ct_mono (jt_X13_put l) (fun as g M Po h => ?_)
  unfold jp_X13_put at h
  split at h
  rotate_left
  · exact h.elim
  · unfold js_X13_put
    obtain ⟨h1, hK⟩ := h
    unfold f_put at hK
    simp only [mK_ite, mno] at hK
    try simp only [mY_0] at hK
    try simp only [mY_j] at hK
    exact ⟨h1, fun c => mK_no (hK.1 c), fun c => mK_of (hK.2 c) (by simp only [mY_u, mY_adds]) (mFr_u (mFr_adds mFr_rf) (by omega))⟩
def jp_X13_reckon : jx_Sp := fun as g M Po => match as with
  | [(73, _, y), (0, _, w), (0, _, x), (0, _, dx), (0, _, z), (0, _, dz)] => ((0 ≤ M y 9 ∧ M y 9 ≤ 16) ∧ (jx_r w ∧ jx_r x ∧ jx_r dx ∧ jx_r z ∧ jx_r dz)) ∧ mK y g M Po 0 (f_reckon w x dx z dz (mY M y)).1 (f_reckon w x dx z dz (mY M y)).2
  | _ => False
set_option maxHeartbeats 4000000 in
theorem jq_X13_reckon (l : Launch) : jx_Ct l yX13_reckon (ws_ yX13_reckon cX13_reckon 6 (some .int)) 3 0 0 jp_X13_reckon := by
  refine jx_Ct_mono (jt_X13_reckon l) (fun as g M Po h => ?_)
  unfold jp_X13_reckon at h
  split at h
  rotate_left
  · exact h.elim
  · unfold js_X13_reckon
    obtain ⟨⟨h1, h2⟩, hK⟩ := h
    unfold f_reckon at hK
    simp only [mK_ite, mno] at hK
    try simp only [mY_0] at hK
    try simp only [mY_j] at hK
    exact ⟨h1, h2, fun c => mK_no (hK.2 c), fun c => ⟨fun c2 => mK_no ((hK.1 c).2 c2), fun c2 => ⟨fun c3 => mK_no (((hK.1 c).1 c2).1 c3), fun c3 => mK_adds (((hK.1 c).1 c2).2 c3)⟩⟩⟩
def jp_X13_fetch : jx_Sp := fun as g M Po => match as with
  | [(73, _, y), (0, _, s), (0, _, x), (0, _, dx)] => ((0 ≤ M y 9 ∧ M y 9 ≤ 16) ∧ (jx_r s ∧ jx_r x ∧ jx_r dx)) ∧ mK y g M Po 0 (f_fetch s x dx (mY M y)).1 (f_fetch s x dx (mY M y)).2
  | _ => False
set_option maxHeartbeats 4000000 in
theorem jq_X13_fetch (l : Launch) : jx_Ct l yX13_fetch (ws_ yX13_fetch cX13_fetch 4 (some .int)) 3 0 0 jp_X13_fetch := by
  refine jx_Ct_mono (jt_X13_fetch l) (fun as g M Po h => ?_)
  unfold jp_X13_fetch at h
  split at h
  rotate_left
  · exact h.elim
  · unfold js_X13_fetch
    obtain ⟨⟨h1, h2⟩, hK⟩ := h
    unfold f_fetch at hK
    simp only [mK_ite, mno] at hK
    try simp only [mY_0] at hK
    try simp only [mY_j] at hK
    exact ⟨h1, h2, fun c => mK_no (hK.2 c), fun c => ⟨fun c2 => mK_no ((hK.1 c).2 c2), fun c2 => ⟨fun c3 => mK_no (((hK.1 c).1 c2).1 c3), fun c3 => mK_adds (((hK.1 c).1 c2).2 c3)⟩⟩⟩
def jp_X13_store : jx_Sp := fun as g M Po => match as with
  | [(73, _, y), (0, _, s), (0, _, x), (0, _, dx), (0, _, z), (0, _, dz)] => ((0 ≤ M y 9 ∧ M y 9 ≤ 16) ∧ (jx_r s ∧ jx_r x ∧ jx_r dx ∧ jx_r z ∧ jx_r dz)) ∧ mK y g M Po 0 (f_store s x dx z dz (mY M y)).1 (f_store s x dx z dz (mY M y)).2
  | _ => False
set_option maxHeartbeats 4000000 in
theorem jq_X13_store (l : Launch) : jx_Ct l yX13_store (ws_ yX13_store cX13_store 6 (some .int)) 3 0 0 jp_X13_store := by
  refine jx_Ct_mono (jt_X13_store l) (fun as g M Po h => ?_)
  unfold jp_X13_store at h
  split at h
  rotate_left
  · exact h.elim
  · unfold js_X13_store
    obtain ⟨⟨h1, h2⟩, hK⟩ := h
    unfold f_store at hK
    simp only [mK_ite, mno] at hK
    try simp only [mY_0] at hK
    try simp only [mY_j] at hK
    exact ⟨h1, h2, fun c => mK_no (hK.2 c), fun c => ⟨fun c2 => mK_no ((hK.1 c).2 c2), fun c2 => ⟨fun c3 => mK_no (((hK.1 c).1 c2).1 c3), fun c3 => mK_adds (((hK.1 c).1 c2).2 c3)⟩⟩⟩
def jp_X13_pick : jx_Sp := fun as g M Po => match as with
  | [(73, _, y), (0, _, x), (0, _, w), (0, _, z), (0, _, dz)] => ((0 ≤ M y 9 ∧ M y 9 ≤ 16) ∧ (jx_r x ∧ jx_r w ∧ jx_r z ∧ jx_r dz)) ∧ mK y g M Po 0 (f_pick x w z dz (mY M y)).1 (f_pick x w z dz (mY M y)).2
  | _ => False
set_option maxHeartbeats 4000000 in
theorem jq_X13_pick (l : Launch) : jx_Ct l yX13_pick (ws_ yX13_pick cX13_pick 6 (some .int)) 3 0 0 jp_X13_pick := by
  refine jx_Ct_mono (jt_X13_pick l) (fun as g M Po h => ?_)
  unfold jp_X13_pick at h
  split at h
  rotate_left
  · exact h.elim
  · unfold js_X13_pick
    obtain ⟨⟨h1, h2⟩, hK⟩ := h
    unfold f_pick at hK
    simp only [mK_ite, mno] at hK
    try simp only [mY_0] at hK
    try simp only [mY_j] at hK
    exact ⟨h1, h2, fun c => mK_no (hK.2 c), fun c => ⟨fun c2 => mK_no ((hK.1 c).2 c2), fun c2 => ⟨fun c3 => mK_no (((hK.1 c).1 c2).1 c3), fun c3 => mK_of (((hK.1 c).1 c2).2 c3) (by simp only [mY_op, mY_adds]) (mFr_op (mFr_adds mFr_rf))⟩⟩⟩
def jp_X13_works : jx_Sp := fun as g M Po => match as with
  | [(73, _, y), (0, _, a), (0, _, lg), (0, _, un), (0, _, pt)] => ((0 ≤ M y 9 ∧ M y 9 ≤ 16) ∧ (jx_r a ∧ jx_r lg ∧ jx_r un ∧ jx_r pt)) ∧ mK y g M Po 0 (f_works a lg un pt (mY M y)).1 (f_works a lg un pt (mY M y)).2
  | _ => False
set_option maxHeartbeats 4000000 in
theorem jq_X13_works (l : Launch) : jx_Ct l yX13_works (ws_ yX13_works cX13_works 5 (some .int)) 3 0 0 jp_X13_works := by
  refine jx_Ct_mono (jt_X13_works l) (fun as g M Po h => ?_)
  unfold jp_X13_works at h
  split at h
  rotate_left
  · exact h.elim
  · unfold js_X13_works
    obtain ⟨⟨h1, h2⟩, hK⟩ := h
    unfold f_works at hK
    simp only [mK_ite, mno] at hK
    simp only [mm_isa] at hK
    try simp only [mY_0] at hK
    try simp only [mY_j] at hK
    exact ⟨h1, h2, fun c => mK_no (hK.2 c), fun c => ⟨fun c2 => mK_no ((hK.1 c).2 c2), fun c2 => mK_of ((hK.1 c).1 c2) (by simp only [mY_changes, mY_u]) (mFr_changes (mFr_u (mFr_u (mFr_u mFr_rf (by omega)) (by omega)) (by omega)))⟩⟩
def jp_X13_first : jx_Sp := fun as g M Po => match as with
  | [(73, _, y), (0, _, a), (1, _, v)] => ((0 ≤ M y 9 ∧ M y 9 ≤ 16) ∧ jx_r a) ∧ mK y g M Po 0 (f_first a v (mY M y)).1 (f_first a v (mY M y)).2
  | _ => False
set_option maxHeartbeats 4000000 in
theorem jq_X13_first (l : Launch) : jx_Ct l yX13_first (ws_ yX13_first cX13_first 4 (some .int)) 3 0 0 jp_X13_first := by
  refine jx_Ct_mono (jt_X13_first l) (fun as g M Po h => ?_)
  unfold jp_X13_first at h
  split at h
  rotate_left
  · exact h.elim
  · unfold js_X13_first
    obtain ⟨⟨h1, h2⟩, hK⟩ := h
    unfold f_first at hK
    simp only [mK_ite, mno] at hK
    simp only [mm_isa] at hK
    try simp only [mY_0] at hK
    try simp only [mY_j] at hK
    exact ⟨h1, h2, fun c => mK_no (hK.2 c), fun c => mK_of (hK.1 c) (by simp only [mY_u]) (mFr_u mFr_rf (by omega))⟩
def jp_X13_unit : jx_Sp := fun as g M Po => match as with
  | [(73, _, y), (0, _, k), (0, _, n)] => (jx_r k ∧ jx_r n) ∧ mK y g M Po 0 (f_unit k n (mY M y)).1 (f_unit k n (mY M y)).2
  | _ => False
set_option maxHeartbeats 4000000 in
theorem jq_X13_unit (l : Launch) : jx_Ct l yX13_unit (ws_ yX13_unit cX13_unit 4 (some .int)) 3 0 0 jp_X13_unit := by
  refine jx_Ct_mono (jt_X13_unit l) (fun as g M Po h => ?_)
  unfold jp_X13_unit at h
  split at h
  rotate_left
  · exact h.elim
  · unfold js_X13_unit
    obtain ⟨h1, hK⟩ := h
    unfold f_unit at hK
    simp only [mK_ite, mno] at hK
    try simp only [mY_0] at hK
    try simp only [mY_j] at hK
    exact ⟨h1, fun c => mK_no (hK.2 c), fun c => ⟨fun c2 => mK_no ((hK.1 c).1 c2), fun c2 => mK_no (((hK.1 c).2 (by omega)).1 c2), fun c2 => mK_of (((hK.1 c).2 (by omega)).2 (by omega)) (by simp only [mY_changes, mY_u]) (mFr_changes (mFr_u mFr_rf (by omega)))⟩⟩
def js_X13_edge : jx_Sp := fun as g M Po => match as with
  | [(73, _, y), (0, _, a), (0, _, b), (0, _, t), (0, _, d)] => ((0 ≤ M y 9 ∧ M y 9 ≤ 16) ∧ (0 ≤ M y 15 ∧ M y 15 ≤ 40) ∧ (jx_r a ∧ jx_r b ∧ jx_r t ∧ jx_r d)) ∧ mK y g M Po 0 (f_edge a b t d (mY M y)).1 (f_edge a b t d (mY M y)).2
  | _ => False
def cs_X13_edge : jx_Cs := [(477, 2, 0, 0, js_X13_isAct), (412, 3, 0, 0, js_X13_isIn), (448, 1, 0, 0, js_X13_areTurns), (372, 2, 0, 0, js_X13_no), (396, 1, 0, 0, js_X13_changes)]
theorem hc_X13_edge {D : jx_D} {l : Launch} : jx_CsOK D l "LoopLaneModel" 3 cs_X13_edge := List.forall_mem_cons.mpr ⟨jc_X13_159 (jt_X13_isAct l) (fun as g M Po (h : js_X13_isAct as g M Po) => by unfold js_X13_isAct at h; split at h <;> first | exact h.elim | exact ⟨_, _, _, rfl, rfl⟩) (by decide), List.forall_mem_cons.mpr ⟨jc_X13_137 (jt_X13_isIn l) (fun as g M Po (h : js_X13_isIn as g M Po) => by unfold js_X13_isIn at h; split at h <;> first | exact h.elim | exact rfl) (by decide), List.forall_mem_cons.mpr ⟨jc_X13_149 (jt_X13_areTurns l) (fun as g M Po (h : js_X13_areTurns as g M Po) => by unfold js_X13_areTurns at h; split at h <;> first | exact h.elim | exact rfl) (by decide), List.forall_mem_cons.mpr ⟨jc_X13_124 (jt_X13_no l) (fun as g M Po (h : js_X13_no as g M Po) => by unfold js_X13_no at h; split at h <;> first | exact h.elim | exact ⟨_, _, _, rfl, rfl⟩) (by decide), List.forall_mem_cons.mpr ⟨jc_X13_132 (jt_X13_changes l) (fun as g M Po (h : js_X13_changes as g M Po) => by unfold js_X13_changes at h; split at h <;> first | exact h.elim | exact ⟨_, _, _, rfl, rfl⟩) (by decide), fun _ h => absurd h List.not_mem_nil⟩⟩⟩⟩⟩
set_option maxHeartbeats 4000000 in
theorem jt_X13_edge (l : Launch) : jx_Ct l yX13_edge (ws_ yX13_edge cX13_edge 5 (some .int)) 3 0 0 js_X13_edge := by
  refine jx_Ct_c (rc := 0) (by decide) rfl (fun D as g M Po hS => ?_)
  unfold js_X13_edge at hS
  split at hS
  · rename_i n1 y n2 a n3 b n4 t n5 d
    obtain ⟨⟨h1, h2, r1, r2, r3, r4⟩, hK⟩ := hS
    unfold f_edge at hK
    simp only [mK_ite, mno] at hK
    simp only [mm_isa] at hK
    try simp only [mY_0] at hK
    try simp only [mY_j] at hK
    refine ⟨Nat.le_of_ble_eq_true rfl, ?_⟩
    refine jx_runL (o := jo_X13) (cs := cs_X13_edge) (hf := jx_nh) jo_X13_ok hc_X13_edge (jx_HK_nil rfl) (fun _ => false) 90 ?_
    simp only [jw, ju, jx_tg, Int.cast_ofNat_Int, Int.reduceAdd, Int.reduceToNat, Nat.reduceAdd, Nat.reduceMul, Nat.reduceBEq, Nat.reduceLeDiff, Int.reduceLE, Int.reduceLT, Int.reduceEq, Int.reduceNeg, Int.reduceSub, Int.reduceMul, not_false_eq_true, true_and, and_true, and_self, Bool.or_false, Bool.false_or, Bool.or_true, Bool.true_or, List.length_nil, List.length_cons, Nat.zero_le, or_true, true_or, Nat.le_refl, ↓reduceIte, Nat.reduceEqDiff, forall_const, false_and, and_false, false_implies, implies_true, not_true_eq_false, or_false, false_or, ne_eq, jd_X13_edge, jf_X13, js_X13_areTurns, js_X13_changes, js_X13_isAct, js_X13_isIn, js_X13_no, cs_X13_edge, jx_ck_c]
    refine ⟨r1, by omega, fun c1 => ⟨r2, by omega, fun c2 => ⟨r3, fun c3 => ⟨r4, fun c4 => ⟨by omega, fun c5 => ?_, fun c5 => mK_no (((hK.1 ⟨c1, c2⟩).1 ⟨c3, c4⟩).1 (by omega))⟩, fun c4 => mK_no ((hK.1 ⟨c1, c2⟩).2 fun q => c4 q.2)⟩, fun c3 => mK_no ((hK.1 ⟨c1, c2⟩).2 fun q => c3 q.1)⟩, fun c2 => mK_no (hK.2 fun q => c2 q.2)⟩, fun c1 => mK_no (hK.2 fun q => c1 q.1)⟩
    refine ⟨by omega, by omega, by omega, by omega, ?_⟩
    rw [mu_changes_f (by omega), jx_u_eq]
    exact mK_of (((hK.1 ⟨c1, c2⟩).1 ⟨c3, c4⟩).2 c5) mY_edge (mFr_edge mFr_rf)
  · exact hS.elim
def js_X13_number : jx_Sp := fun as g M Po => match as with
  | [(73, _, y), (0, _, a)] => ((0 ≤ M y 9 ∧ M y 9 ≤ 16) ∧ jx_r a ∧ ∀ k, 0 ≤ k → k < M y 9 → 0 ≤ M (y + 1) k ∧ M (y + 1) k ≤ 6) ∧ mK y g M Po 1 (f_number a (mY M y)).1 (f_number a (mY M y)).2
  | _ => False
def cs_X13_number : jx_Cs := [(477, 2, 0, 0, js_X13_isAct), (372, 2, 0, 0, js_X13_no)]
theorem hc_X13_number {D : jx_D} {l : Launch} : jx_CsOK D l "LoopLaneModel" 3 cs_X13_number := List.forall_mem_cons.mpr ⟨jc_X13_159 (jt_X13_isAct l) (fun as g M Po (h : js_X13_isAct as g M Po) => by unfold js_X13_isAct at h; split at h <;> first | exact h.elim | exact ⟨_, _, _, rfl, rfl⟩) (by decide), List.forall_mem_cons.mpr ⟨jc_X13_124 (jt_X13_no l) (fun as g M Po (h : js_X13_no as g M Po) => by unfold js_X13_no at h; split at h <;> first | exact h.elim | exact ⟨_, _, _, rfl, rfl⟩) (by decide), fun _ h => absurd h List.not_mem_nil⟩⟩
set_option maxHeartbeats 4000000 in
theorem jt_X13_number (l : Launch) : jx_Ct l yX13_number (ws_ yX13_number cX13_number 4 (some .long)) 3 0 0 js_X13_number := by
  refine jx_Ct_c (rc := 1) (by decide) rfl (fun D as g M Po hS => ?_)
  unfold js_X13_number at hS
  split at hS
  · rename_i n1 y n2 a
    obtain ⟨⟨h1, r1, h2⟩, hK⟩ := hS
    unfold f_number at hK
    simp only [mK_ite, mno] at hK
    simp only [mm_isa] at hK
    try simp only [mY_0] at hK
    try simp only [mY_j] at hK
    refine ⟨Nat.le_of_ble_eq_true rfl, ?_⟩
    refine jx_runL (o := jo_X13) (cs := cs_X13_number) (hf := jx_nh) jo_X13_ok hc_X13_number (jx_HK_nil rfl) (fun _ => false) 60 ?_
    simp only [jw, ju, jx_tg, Int.cast_ofNat_Int, Int.reduceAdd, Int.reduceToNat, Nat.reduceAdd, Nat.reduceMul, Nat.reduceBEq, Nat.reduceLeDiff, Int.reduceLE, Int.reduceLT, Int.reduceEq, Int.reduceNeg, Int.reduceSub, Int.reduceMul, not_false_eq_true, true_and, and_true, and_self, Bool.or_false, Bool.false_or, Bool.or_true, Bool.true_or, List.length_nil, List.length_cons, Nat.zero_le, or_true, true_or, Nat.le_refl, ↓reduceIte, Nat.reduceEqDiff, forall_const, false_and, and_false, false_implies, implies_true, not_true_eq_false, or_false, false_or, ne_eq, jd_X13_number, jf_X13, js_X13_isAct, js_X13_no, cs_X13_number, jx_ck_c]
    refine ⟨r1, by omega, fun c1 => ?_, fun c1 => ?_⟩
    · have := h2 a c1.1 c1.2
      refine ⟨by omega, by omega, fun c2 => ⟨by omega, mK_s ((hK.1 c1).1 c2)⟩, fun c2 => mK_no ((hK.1 c1).2 c2)⟩
    · exact mK_no (hK.2 c1)
  · exact hS.elim
def js_X13_trials : jx_Sp := fun as g M Po => match as with
  | [(73, _, y)] => mK y g M Po 0 (f_trials (mY M y)).1 (f_trials (mY M y)).2
  | _ => False
set_option maxHeartbeats 4000000 in
theorem jt_X13_trials (l : Launch) : jx_Ct l yX13_trials (ws_ yX13_trials cX13_trials 1 (some .int)) 3 0 0 js_X13_trials := by
  refine jx_Ct_c (rc := 0) (by decide) rfl (fun D as g M Po hS => ?_)
  unfold js_X13_trials at hS
  split at hS
  · rename_i n1 y
    unfold f_trials at hS
    simp only [mK_ite, mno] at hS
    try simp only [mY_0] at hS
    try simp only [mY_j] at hS
    refine ⟨Nat.le_of_ble_eq_true rfl, ?_⟩
    refine jx_runL (o := jo_X13) (cs := []) (hf := jx_nh) jo_X13_ok jx_cs0 (jx_HK_nil rfl) (fun _ => false) 60 ?_
    simp only [jw, ju, jx_tg, Int.cast_ofNat_Int, Int.reduceAdd, Int.reduceToNat, Nat.reduceAdd, Nat.reduceMul, Nat.reduceBEq, Nat.reduceLeDiff, Int.reduceLE, Int.reduceLT, Int.reduceEq, Int.reduceNeg, Int.reduceSub, Int.reduceMul, not_false_eq_true, true_and, and_true, and_self, Bool.or_false, Bool.false_or, Bool.or_true, Bool.true_or, List.length_nil, List.length_cons, Nat.zero_le, or_true, true_or, Nat.le_refl, ↓reduceIte, Nat.reduceEqDiff, forall_const, false_and, and_false, false_implies, implies_true, not_true_eq_false, or_false, false_or, ne_eq, jd_X13_trials, jf_X13]
    exact mK_s hS
  · exact hS.elim
def js_X13_forge : jx_Sp := fun as g M Po => match as with
  | [(73, _, y), (0, _, a), (0, _, t)] => ((0 ≤ M y 9 ∧ M y 9 ≤ 16) ∧ (0 ≤ M y 27 ∧ M y 27 ≤ 60) ∧ jx_r a ∧ jx_r t) ∧ mK y g M Po 0 (f_forge a t (mY M y)).1 (f_forge a t (mY M y)).2
  | _ => False
def cs_X13_forge : jx_Cs := [(477, 2, 0, 0, js_X13_isAct), (372, 2, 0, 0, js_X13_no)]
theorem hc_X13_forge {D : jx_D} {l : Launch} : jx_CsOK D l "LoopLaneModel" 3 cs_X13_forge := List.forall_mem_cons.mpr ⟨jc_X13_159 (jt_X13_isAct l) (fun as g M Po (h : js_X13_isAct as g M Po) => by unfold js_X13_isAct at h; split at h <;> first | exact h.elim | exact ⟨_, _, _, rfl, rfl⟩) (by decide), List.forall_mem_cons.mpr ⟨jc_X13_124 (jt_X13_no l) (fun as g M Po (h : js_X13_no as g M Po) => by unfold js_X13_no at h; split at h <;> first | exact h.elim | exact ⟨_, _, _, rfl, rfl⟩) (by decide), fun _ h => absurd h List.not_mem_nil⟩⟩
set_option maxHeartbeats 4000000 in
theorem jt_X13_forge (l : Launch) : jx_Ct l yX13_forge (ws_ yX13_forge cX13_forge 4 (some .int)) 3 0 0 js_X13_forge := by
  refine jx_Ct_c (rc := 0) (by decide) rfl (fun D as g M Po hS => ?_)
  unfold js_X13_forge at hS
  split at hS
  · rename_i n1 y n2 a n3 t
    obtain ⟨⟨h1, h2, r1, r2⟩, hK⟩ := hS
    unfold f_forge at hK
    simp only [mK_ite, mno] at hK
    simp only [mm_isa] at hK
    try simp only [mY_0] at hK
    try simp only [mY_j] at hK
    refine ⟨Nat.le_of_ble_eq_true rfl, ?_⟩
    refine jx_runL (o := jo_X13) (cs := cs_X13_forge) (hf := jx_nh) jo_X13_ok hc_X13_forge (jx_HK_nil rfl) (fun _ => false) 60 ?_
    simp only [jw, ju, jx_tg, Int.cast_ofNat_Int, Int.reduceAdd, Int.reduceToNat, Nat.reduceAdd, Nat.reduceMul, Nat.reduceBEq, Nat.reduceLeDiff, Int.reduceLE, Int.reduceLT, Int.reduceEq, Int.reduceNeg, Int.reduceSub, Int.reduceMul, not_false_eq_true, true_and, and_true, and_self, Bool.or_false, Bool.false_or, Bool.or_true, Bool.true_or, List.length_nil, List.length_cons, Nat.zero_le, or_true, true_or, Nat.le_refl, ↓reduceIte, Nat.reduceEqDiff, forall_const, false_and, and_false, false_implies, implies_true, not_true_eq_false, or_false, false_or, ne_eq, jd_X13_forge, jf_X13, js_X13_isAct, js_X13_no, cs_X13_forge, jx_ck_c]
    refine ⟨by omega, fun c0 => ⟨r1, by omega, fun c1 => ⟨r2, fun c2 => ⟨r2, fun c3 => ?_, fun c3 => mK_no ((((hK.2 c0).1 c1).2 (by omega)).1 (by omega))⟩, fun c2 => mK_no (((hK.2 c0).1 c1).1 (by omega))⟩, fun c1 => mK_no ((hK.2 c0).2 c1)⟩, fun c0 => mK_no (hK.1 (by omega))⟩
    exact ⟨by omega, by omega, mK_of ((((hK.2 c0).1 c1).2 (by omega)).2 (by omega)) (by simp only [mY_u]) (mFr_u mFr_rf (by omega))⟩
  · exact hS.elim
def js_X13_wrong : jx_Sp := fun as g M Po => match as with
  | [(73, _, y), (0, _, w)] => jx_r w ∧ mK y g M Po 0 (f_wrong w (mY M y)).1 (f_wrong w (mY M y)).2
  | _ => False
def cs_X13_wrong : jx_Cs := [(412, 3, 0, 0, js_X13_isIn), (372, 2, 0, 0, js_X13_no)]
theorem hc_X13_wrong {D : jx_D} {l : Launch} : jx_CsOK D l "LoopLaneModel" 3 cs_X13_wrong := List.forall_mem_cons.mpr ⟨jc_X13_137 (jt_X13_isIn l) (fun as g M Po (h : js_X13_isIn as g M Po) => by unfold js_X13_isIn at h; split at h <;> first | exact h.elim | exact rfl) (by decide), List.forall_mem_cons.mpr ⟨jc_X13_124 (jt_X13_no l) (fun as g M Po (h : js_X13_no as g M Po) => by unfold js_X13_no at h; split at h <;> first | exact h.elim | exact ⟨_, _, _, rfl, rfl⟩) (by decide), fun _ h => absurd h List.not_mem_nil⟩⟩
set_option maxHeartbeats 4000000 in
theorem jt_X13_wrong (l : Launch) : jx_Ct l yX13_wrong (ws_ yX13_wrong cX13_wrong 2 (some .int)) 3 0 0 js_X13_wrong := by
  refine jx_Ct_c (rc := 0) (by decide) rfl (fun D as g M Po hS => ?_)
  unfold js_X13_wrong at hS
  split at hS
  · rename_i n1 y n2 w
    obtain ⟨r1, hK⟩ := hS
    unfold f_wrong at hK
    simp only [mK_ite, mno] at hK
    try simp only [mY_0] at hK
    try simp only [mY_j] at hK
    refine ⟨Nat.le_of_ble_eq_true rfl, ?_⟩
    refine jx_runL (o := jo_X13) (cs := cs_X13_wrong) (hf := jx_nh) jo_X13_ok hc_X13_wrong (jx_HK_nil rfl) (fun _ => false) 60 ?_
    simp only [jw, ju, jx_tg, Int.cast_ofNat_Int, Int.reduceAdd, Int.reduceToNat, Nat.reduceAdd, Nat.reduceMul, Nat.reduceBEq, Nat.reduceLeDiff, Int.reduceLE, Int.reduceLT, Int.reduceEq, Int.reduceNeg, Int.reduceSub, Int.reduceMul, not_false_eq_true, true_and, and_true, and_self, Bool.or_false, Bool.false_or, Bool.or_true, Bool.true_or, List.length_nil, List.length_cons, Nat.zero_le, or_true, true_or, Nat.le_refl, ↓reduceIte, Nat.reduceEqDiff, forall_const, false_and, and_false, false_implies, implies_true, not_true_eq_false, or_false, false_or, ne_eq, jd_X13_wrong, jf_X13, js_X13_isIn, js_X13_no, cs_X13_wrong, jx_ck_c]
    exact ⟨r1, fun c1 => ⟨by omega, mK_s (hK.1 c1)⟩, fun c1 => mK_no (hK.2 c1)⟩
  · exact hS.elim
def js_X13_end : jx_Sp := fun as g M Po => match as with
  | [(73, _, y), (0, _, a)] => ((0 ≤ M y 9 ∧ M y 9 ≤ 16) ∧ (0 ≤ M y 44 ∧ M y 44 ≤ 200) ∧ jx_r a) ∧ mK y g M Po 1 (f_end a (mY M y)).1 (f_end a (mY M y)).2
  | _ => False
def cs_X13_end : jx_Cs := [(477, 2, 0, 0, js_X13_isAct), (372, 2, 0, 0, js_X13_no)]
theorem hc_X13_end {D : jx_D} {l : Launch} : jx_CsOK D l "LoopLaneModel" 3 cs_X13_end := List.forall_mem_cons.mpr ⟨jc_X13_159 (jt_X13_isAct l) (fun as g M Po (h : js_X13_isAct as g M Po) => by unfold js_X13_isAct at h; split at h <;> first | exact h.elim | exact ⟨_, _, _, rfl, rfl⟩) (by decide), List.forall_mem_cons.mpr ⟨jc_X13_124 (jt_X13_no l) (fun as g M Po (h : js_X13_no as g M Po) => by unfold js_X13_no at h; split at h <;> first | exact h.elim | exact ⟨_, _, _, rfl, rfl⟩) (by decide), fun _ h => absurd h List.not_mem_nil⟩⟩
set_option maxHeartbeats 4000000 in
theorem jt_X13_end (l : Launch) : jx_Ct l yX13_end (ws_ yX13_end cX13_end 3 (some .long)) 3 0 0 js_X13_end := by
  refine jx_Ct_c (rc := 1) (by decide) rfl (fun D as g M Po hS => ?_)
  unfold js_X13_end at hS
  split at hS
  · rename_i n1 y n2 a
    obtain ⟨⟨h1, h2, r1⟩, hK⟩ := hS
    unfold f_end at hK
    simp only [mK_ite, mno] at hK
    simp only [mm_isa] at hK
    try simp only [mY_0] at hK
    try simp only [mY_j] at hK
    refine ⟨Nat.le_of_ble_eq_true rfl, ?_⟩
    refine jx_runL (o := jo_X13) (cs := cs_X13_end) (hf := jx_nh) jo_X13_ok hc_X13_end (jx_HK_nil rfl) (fun _ => false) 60 ?_
    simp only [jw, ju, jx_tg, Int.cast_ofNat_Int, Int.reduceAdd, Int.reduceToNat, Nat.reduceAdd, Nat.reduceMul, Nat.reduceBEq, Nat.reduceLeDiff, Int.reduceLE, Int.reduceLT, Int.reduceEq, Int.reduceNeg, Int.reduceSub, Int.reduceMul, not_false_eq_true, true_and, and_true, and_self, Bool.or_false, Bool.false_or, Bool.or_true, Bool.true_or, List.length_nil, List.length_cons, Nat.zero_le, or_true, true_or, Nat.le_refl, ↓reduceIte, Nat.reduceEqDiff, forall_const, false_and, and_false, false_implies, implies_true, not_true_eq_false, or_false, false_or, ne_eq, jd_X13_end, jf_X13, js_X13_isAct, js_X13_no, cs_X13_end, jx_ck_c]
    exact ⟨r1, by omega, fun c1 => ⟨by omega, fun c2 => ⟨by omega, mK_s ((hK.1 c1).2 c2)⟩, fun c2 => ⟨by omega, mK_s ((hK.1 c1).1 (by omega))⟩⟩, fun c1 => mK_no (hK.2 c1)⟩
  · exact hS.elim
def js_X13_again : jx_Sp := fun as g M Po => match as with
  | [(73, _, y)] => (-11 ≤ M y 26 ∧ M y 26 ≤ 0) ∧ mK y g M Po 0 (f_again (mY M y)).1 (f_again (mY M y)).2
  | _ => False
set_option maxHeartbeats 4000000 in
theorem jt_X13_again (l : Launch) : jx_Ct l yX13_again (ws_ yX13_again cX13_again 2 (some .int)) 3 0 0 js_X13_again := by
  refine jx_Ct_c (rc := 0) (by decide) rfl (fun D as g M Po hS => ?_)
  unfold js_X13_again at hS
  split at hS
  · rename_i n1 y
    obtain ⟨h1, hK⟩ := hS
    unfold f_again at hK
    simp only [mK_ite, mno] at hK
    try simp only [mY_0] at hK
    try simp only [mY_j] at hK
    refine ⟨Nat.le_of_ble_eq_true rfl, ?_⟩
    refine jx_runL (o := jo_X13) (cs := []) (hf := jx_nh) jo_X13_ok jx_cs0 (jx_HK_nil rfl) (fun _ => false) 60 ?_
    simp only [jw, ju, jx_tg, Int.cast_ofNat_Int, Int.reduceAdd, Int.reduceToNat, Nat.reduceAdd, Nat.reduceMul, Nat.reduceBEq, Nat.reduceLeDiff, Int.reduceLE, Int.reduceLT, Int.reduceEq, Int.reduceNeg, Int.reduceSub, Int.reduceMul, not_false_eq_true, true_and, and_true, and_self, Bool.or_false, Bool.false_or, Bool.or_true, Bool.true_or, List.length_nil, List.length_cons, Nat.zero_le, or_true, true_or, Nat.le_refl, ↓reduceIte, Nat.reduceEqDiff, forall_const, false_and, and_false, false_implies, implies_true, not_true_eq_false, or_false, false_or, ne_eq, jd_X13_again, jf_X13]
    exact ⟨by omega, fun c => mK_of (hK.2 c) (by simp only [mY_u0]) (mFr_u0 mFr_rf), fun c => mK_s (hK.1 (by omega))⟩
  · exact hS.elim
def js_X13_status : jx_Sp := fun as g M Po => match as with
  | [(73, _, y), (0, _, b)] => jx_r b ∧ mK y g M Po 0 (f_status b (mY M y)).1 (f_status b (mY M y)).2
  | _ => False
def cs_X13_status : jx_Cs := [(412, 3, 0, 0, js_X13_isIn), (372, 2, 0, 0, js_X13_no)]
theorem hc_X13_status {D : jx_D} {l : Launch} : jx_CsOK D l "LoopLaneModel" 3 cs_X13_status := List.forall_mem_cons.mpr ⟨jc_X13_137 (jt_X13_isIn l) (fun as g M Po (h : js_X13_isIn as g M Po) => by unfold js_X13_isIn at h; split at h <;> first | exact h.elim | exact rfl) (by decide), List.forall_mem_cons.mpr ⟨jc_X13_124 (jt_X13_no l) (fun as g M Po (h : js_X13_no as g M Po) => by unfold js_X13_no at h; split at h <;> first | exact h.elim | exact ⟨_, _, _, rfl, rfl⟩) (by decide), fun _ h => absurd h List.not_mem_nil⟩⟩
set_option maxHeartbeats 4000000 in
theorem jt_X13_status (l : Launch) : jx_Ct l yX13_status (ws_ yX13_status cX13_status 2 (some .int)) 3 0 0 js_X13_status := by
  refine jx_Ct_c (rc := 0) (by decide) rfl (fun D as g M Po hS => ?_)
  unfold js_X13_status at hS
  split at hS
  · rename_i n1 y n2 b
    obtain ⟨r1, hK⟩ := hS
    unfold f_status at hK
    simp only [mK_ite, mno] at hK
    try simp only [mY_0] at hK
    try simp only [mY_j] at hK
    refine ⟨Nat.le_of_ble_eq_true rfl, ?_⟩
    refine jx_runL (o := jo_X13) (cs := cs_X13_status) (hf := jx_nh) jo_X13_ok hc_X13_status (jx_HK_nil rfl) (fun _ => false) 60 ?_
    simp only [jw, ju, jx_tg, Int.cast_ofNat_Int, Int.reduceAdd, Int.reduceToNat, Nat.reduceAdd, Nat.reduceMul, Nat.reduceBEq, Nat.reduceLeDiff, Int.reduceLE, Int.reduceLT, Int.reduceEq, Int.reduceNeg, Int.reduceSub, Int.reduceMul, not_false_eq_true, true_and, and_true, and_self, Bool.or_false, Bool.false_or, Bool.or_true, Bool.true_or, List.length_nil, List.length_cons, Nat.zero_le, or_true, true_or, Nat.le_refl, ↓reduceIte, Nat.reduceEqDiff, forall_const, false_and, and_false, false_implies, implies_true, not_true_eq_false, or_false, false_or, ne_eq, jd_X13_status, jf_X13, js_X13_isIn, js_X13_no, cs_X13_status, jx_ck_c]
    exact ⟨r1, fun c1 => ⟨by omega, mK_s (hK.1 c1)⟩, fun c1 => mK_no (hK.2 c1)⟩
  · exact hS.elim
def js_X13_empty : jx_Sp := fun as g M Po => match as with
  | [(73, _, y), (0, _, s)] => (jx_r s ∧ ∀ k, 0 ≤ k → k < 8 → 0 ≤ M (y + 21) k ∧ M (y + 21) k ≤ 40) ∧ mK y g M Po 0 (f_empty s (mY M y)).1 (f_empty s (mY M y)).2
  | _ => False
def cs_X13_empty : jx_Cs := [(748, 1, 0, 0, js_X13_isSlot), (372, 2, 0, 0, js_X13_no)]
theorem hc_X13_empty {D : jx_D} {l : Launch} : jx_CsOK D l "LoopLaneModel" 3 cs_X13_empty := List.forall_mem_cons.mpr ⟨jc_X13_249 (jt_X13_isSlot l) (fun as g M Po (h : js_X13_isSlot as g M Po) => by unfold js_X13_isSlot at h; split at h <;> first | exact h.elim | exact rfl) (by decide), List.forall_mem_cons.mpr ⟨jc_X13_124 (jt_X13_no l) (fun as g M Po (h : js_X13_no as g M Po) => by unfold js_X13_no at h; split at h <;> first | exact h.elim | exact ⟨_, _, _, rfl, rfl⟩) (by decide), fun _ h => absurd h List.not_mem_nil⟩⟩
set_option maxHeartbeats 4000000 in
theorem jt_X13_empty (l : Launch) : jx_Ct l yX13_empty (ws_ yX13_empty cX13_empty 3 (some .int)) 3 0 0 js_X13_empty := by
  refine jx_Ct_c (rc := 0) (by decide) rfl (fun D as g M Po hS => ?_)
  unfold js_X13_empty at hS
  split at hS
  · rename_i n1 y n2 s
    obtain ⟨⟨r1, h1⟩, hK⟩ := hS
    unfold f_empty at hK
    simp only [mK_ite, mno] at hK
    try simp only [mY_0] at hK
    try simp only [mY_j] at hK
    refine ⟨Nat.le_of_ble_eq_true rfl, ?_⟩
    refine jx_runL (o := jo_X13) (cs := cs_X13_empty) (hf := jx_nh) jo_X13_ok hc_X13_empty (jx_HK_nil rfl) (fun _ => false) 60 ?_
    simp only [jw, ju, jx_tg, Int.cast_ofNat_Int, Int.reduceAdd, Int.reduceToNat, Nat.reduceAdd, Nat.reduceMul, Nat.reduceBEq, Nat.reduceLeDiff, Int.reduceLE, Int.reduceLT, Int.reduceEq, Int.reduceNeg, Int.reduceSub, Int.reduceMul, not_false_eq_true, true_and, and_true, and_self, Bool.or_false, Bool.false_or, Bool.or_true, Bool.true_or, List.length_nil, List.length_cons, Nat.zero_le, or_true, true_or, Nat.le_refl, ↓reduceIte, Nat.reduceEqDiff, forall_const, false_and, and_false, false_implies, implies_true, not_true_eq_false, or_false, false_or, ne_eq, jd_X13_empty, jf_X13, js_X13_isSlot, js_X13_no, cs_X13_empty, jx_ck_c]
    refine ⟨r1, fun c1 => ?_, fun c1 => mK_no (hK.2 c1)⟩
    have hK1 := hK.1 c1
    have := h1 s c1.1 c1.2
    refine ⟨by omega, by omega, fun c2 => ⟨by omega, ?_⟩, fun c2 => ⟨by omega, ?_⟩⟩
    · exact mK_of (hK1.2 (by omega)) (by simp only [mY_u]) (mFr_u mFr_rf (by omega))
    · exact mK_of (hK1.1 (by omega)) (by simp only [mY_u]) (mFr_u mFr_rf (by omega))
  · exact hS.elim
