/-! EDGES 1: entering edges; the reference's gatherTwo -/
set_option maxRecDepth 100000
/-- an edge is written down: four arrays, a counter -/
def mu_ent (p0 p1 p2 p3 q i : Int) (M : jx_M) (a b t d : Int) : jx_M := jx_u (jx_u (jx_u (jx_u (jx_u M p0 (M q i) a) p1 (M q i) b) p2 (M q i) t) p3 (M q i) d) q i (M q i + 1)
/-- from M to M': the edges P are written down, c of them -/
def mEx (p0 p1 p2 p3 q i : Int) (M M' : jx_M) (P : mm_E) (c : Int) : Prop := M' q i = M q i + c ∧
  (∀ E : mm_E, mm_EO E (M p0) (M p1) (M p2) (M p3) (M q i) → mm_EO (fun a b t d => E a b t d ∨ P a b t d) (M' p0) (M' p1) (M' p2) (M' p3) (M' q i)) ∧
  ∀ z k : Int, z ≠ p0 → z ≠ p1 → z ≠ p2 → z ≠ p3 → ¬ (z = q ∧ k = i) → M' z k = M z k
def mm_E0 : mm_E := fun _ _ _ _ => False
def mm_E1 (a b t d : Int) : mm_E := fun a' b' t' d' => a' = a ∧ b' = b ∧ t' = t ∧ d' = d
def mm_EU (P Q : mm_E) : mm_E := fun a b t d => P a b t d ∨ Q a b t d
section MEX
variable {p0 p1 p2 p3 q i : Int} {M M' M'' : jx_M} {P Q : mm_E} {c c' : Int}
theorem mEx_rf : mEx p0 p1 p2 p3 q i M M mm_E0 0 := ⟨by omega, fun E h => mm_EO_iff h (fun a b t d => ⟨Or.inl, fun z => z.elim (fun w => w) (fun w => w.elim)⟩), fun _ _ _ _ _ _ _ => rfl⟩
theorem mEx_tr (h : mEx p0 p1 p2 p3 q i M M' P c) (h' : mEx p0 p1 p2 p3 q i M' M'' Q c') : mEx p0 p1 p2 p3 q i M M'' (mm_EU P Q) (c + c') := by
  refine ⟨by rw [h'.1, h.1]; omega, fun E hE => mm_EO_iff (h'.2.1 _ (h.2.1 E hE)) (fun a b t d => ⟨?_, ?_⟩), fun z k a b c d e => (h'.2.2 z k a b c d e).trans (h.2.2 z k a b c d e)⟩
  · rintro ((w | w) | w)
    · exact Or.inl w
    · exact Or.inr (Or.inl w)
    · exact Or.inr (Or.inr w)
  · rintro (w | w | w)
    · exact Or.inl (Or.inl w)
    · exact Or.inl (Or.inr w)
    · exact Or.inr w
theorem mEx_iff (h : mEx p0 p1 p2 p3 q i M M' P c) (hP : ∀ a b t d, P a b t d ↔ Q a b t d) (hc : c = c') : mEx p0 p1 p2 p3 q i M M' Q c' :=
  ⟨by rw [← hc]; exact h.1, fun E hE => mm_EO_iff (h.2.1 E hE) (fun a b t d => by rw [hP]), h.2.2⟩
theorem mEx_ent {a b t d : Int} (h0 : 0 ≤ M q i) (hd : (p0 ≠ p1 ∧ p0 ≠ p2 ∧ p0 ≠ p3 ∧ p1 ≠ p2 ∧ p1 ≠ p3 ∧ p2 ≠ p3) ∧ (q ≠ p0 ∧ q ≠ p1 ∧ q ≠ p2 ∧ q ≠ p3)) : mEx p0 p1 p2 p3 q i M (mu_ent p0 p1 p2 p3 q i M a b t d) (mm_E1 a b t d) 1 := by
  obtain ⟨⟨d1, d2, d3, d4, d5, d6⟩, e0, e1, e2, e3⟩ := hd
  refine ⟨?_, fun E hE => ?_, fun z k a0 a1 a2 a3 a4 => ?_⟩
  · unfold mu_ent
    rw [jx_u_eq]
  · have en : mu_ent p0 p1 p2 p3 q i M a b t d q i = M q i + 1 := by
      unfold mu_ent
      rw [jx_u_eq]
    rw [en]
    refine mm_EO_add h0 hE (fun e he => ?_) (fun e he => ?_) (fun e he => ?_) (fun e he => ?_) ?_ ?_ ?_ ?_
    · unfold mu_ent
      rw [jx_u_a _ _ _ _ _ _ (Ne.symm e0), jx_u_a _ _ _ _ _ _ d3, jx_u_a _ _ _ _ _ _ d2, jx_u_a _ _ _ _ _ _ d1, jx_u_j _ _ _ _ _ _ (by omega)]
    · unfold mu_ent
      rw [jx_u_a _ _ _ _ _ _ (Ne.symm e1), jx_u_a _ _ _ _ _ _ d5, jx_u_a _ _ _ _ _ _ d4, jx_u_j _ _ _ _ _ _ (by omega), jx_u_a _ _ _ _ _ _ (Ne.symm d1)]
    · unfold mu_ent
      rw [jx_u_a _ _ _ _ _ _ (Ne.symm e2), jx_u_a _ _ _ _ _ _ d6, jx_u_j _ _ _ _ _ _ (by omega), jx_u_a _ _ _ _ _ _ (Ne.symm d4), jx_u_a _ _ _ _ _ _ (Ne.symm d2)]
    · unfold mu_ent
      rw [jx_u_a _ _ _ _ _ _ (Ne.symm e3), jx_u_j _ _ _ _ _ _ (by omega), jx_u_a _ _ _ _ _ _ (Ne.symm d6), jx_u_a _ _ _ _ _ _ (Ne.symm d5), jx_u_a _ _ _ _ _ _ (Ne.symm d3)]
    · unfold mu_ent
      rw [jx_u_a _ _ _ _ _ _ (Ne.symm e0), jx_u_a _ _ _ _ _ _ d3, jx_u_a _ _ _ _ _ _ d2, jx_u_a _ _ _ _ _ _ d1, jx_u_eq]
    · unfold mu_ent
      rw [jx_u_a _ _ _ _ _ _ (Ne.symm e1), jx_u_a _ _ _ _ _ _ d5, jx_u_a _ _ _ _ _ _ d4, jx_u_eq]
    · unfold mu_ent
      rw [jx_u_a _ _ _ _ _ _ (Ne.symm e2), jx_u_a _ _ _ _ _ _ d6, jx_u_eq]
    · unfold mu_ent
      rw [jx_u_a _ _ _ _ _ _ (Ne.symm e3), jx_u_eq]
  · unfold mu_ent
    unfold jx_u
    rw [if_neg (fun z => a4 z), if_neg (fun z => a3 z.1), if_neg (fun z => a2 z.1), if_neg (fun z => a1 z.1), if_neg (fun z => a0 z.1)]
end MEX
/-- the reference's place of edges -/
def mEy (y : Int) (M M' : jx_M) (P : mm_E) (c : Int) : Prop := mEx (y + 15) (y + 16) (y + 17) (y + 18) y 20 M M' P c
theorem mEy_ent {y a b t d : Int} {M : jx_M} (h0 : 0 ≤ M y 20) : mEy y M (mu_enter M y a b t d) (mm_E1 a b t d) 1 := mEx_ent h0 (by omega)
theorem mEy_off {y j k c : Int} {M M' : jx_M} {P : mm_E} (h : mEy y M M' P c) (hj : j ≠ 0) (h2 : j < 15 ∨ 18 < j) : M' (y + j) k = M (y + j) k := h.2.2 (y + j) k (by omega) (by omega) (by omega) (by omega) (by omega)
theorem mEy_0 {y k c : Int} {M M' : jx_M} {P : mm_E} (h : mEy y M M' P c) (hk : k ≠ 20) : M' y k = M y k := h.2.2 y k (by omega) (by omega) (by omega) (by omega) (by omega)
/-- edges between acts of one row; a store behind what may be refused -/
def me_rw (S : jx_M) (a b : Int) : Prop := a < b ∧ (S 1 a = 4 ∨ S 1 a = 5) ∧ (S 1 b = 4 ∨ S 1 b = 5) ∧ S 5 a = S 5 b ∧ (S 1 a = 5 ∨ S 1 b = 5)
def me_bh (S : jx_M) (a b : Int) : Prop := S 1 b = 5 ∧ a ≠ b ∧ (3 ≤ S 1 a ∧ S 1 a ≤ 5)
def me_two (S : jx_M) (a b : Int) : mm_E := fun a' b' t d => (me_rw S a b ∧ ((a' = a ∧ b' = b ∧ t = 1 ∧ d = 0) ∨ (a' = b ∧ b' = a ∧ t = 1 ∧ d = 1))) ∨ (me_bh S a b ∧ ((a < b ∧ a' = a ∧ b' = b ∧ t = 1 ∧ d = 0) ∨ (a' = a ∧ b' = b ∧ t = 1 ∧ d = 1)))
noncomputable def me_cn (S : jx_M) (a b : Int) : Int := (@ite _ (me_rw S a b) (Classical.propDecidable _) 2 0) + (@ite _ (me_bh S a b) (Classical.propDecidable _) (if a < b then 2 else 1) 0)
theorem me_cn_r {S : jx_M} {a b : Int} : 0 ≤ me_cn S a b ∧ (a < b → me_cn S a b ≤ 4) ∧ (a = b → me_cn S a b = 0) ∧ (b < a → me_cn S a b ≤ 1) := by
  unfold me_cn
  by_cases h1 : me_rw S a b
  · have := h1.1
    rw [if_pos h1]
    split
    · omega
    · omega
  · rw [if_neg h1]
    by_cases h2 : me_bh S a b
    · have := h2.2.1
      rw [if_pos h2]
      split <;> omega
    · rw [if_neg h2]
      omega
def js_X13_gatherTwo : jx_Sp := fun as g M Po => match as with
  | [(73, _, y), (0, _, a), (0, _, b)] => ((0 ≤ a ∧ a < 16) ∧ (0 ≤ b ∧ b < 16) ∧ (0 ≤ M y 20 ∧ M y 20 + me_cn (mY M y) a b ≤ 704) ∧ jx_r (M (y + 1) a) ∧ jx_r (M (y + 1) b) ∧ jx_r (M (y + 5) a) ∧ jx_r (M (y + 5) b)) ∧ ∀ M', mEy y M M' (me_two (mY M y) a b) (me_cn (mY M y) a b) → Po (3, 0, 0) g M'
  | _ => False
def cs_X13_gatherTwo : jx_Cs := [(549, 5, 0, 0, js_X13_enter), (570, 2, 0, 0, js_X13_isOfRow)]
theorem hc_X13_gatherTwo {D : jx_D} {l : Launch} : jx_CsOK D l "LoopLaneModel" 1 cs_X13_gatherTwo := List.forall_mem_cons.mpr ⟨jc_X13_183 (jt_X13_enter l) (fun as g M Po (h : js_X13_enter as g M Po) => by unfold js_X13_enter at h; split at h <;> first | exact h.elim | exact ⟨_, _, _, rfl, rfl⟩) (by decide), List.forall_mem_cons.mpr ⟨jc_X13_190 (jt_X13_isOfRow l) (fun as g M Po (h : js_X13_isOfRow as g M Po) => by unfold js_X13_isOfRow at h; split at h <;> first | exact h.elim | exact ⟨_, _, _, rfl, rfl⟩) (by decide), fun _ h => absurd h List.not_mem_nil⟩⟩
set_option maxHeartbeats 4000000 in
theorem jt_X13_gatherTwo (l : Launch) : jx_Ct l yX13_gatherTwo (ws_ yX13_gatherTwo cX13_gatherTwo 5 none) 1 0 0 js_X13_gatherTwo := by
  refine jx_Ct_c (rc := 3) (by decide) rfl (fun D as g M Po hS => ?_)
  unfold js_X13_gatherTwo at hS
  split at hS
  · rename_i n1 y n2 a n3 b
    obtain ⟨⟨h1, h2, h3, r1, r2, r3, r4⟩, hP⟩ := hS
    refine ⟨Nat.le_of_ble_eq_true rfl, ?_⟩
    have hcn := @me_cn_r (mY M y) a b
    have fin : ∀ (M' : jx_M) (P : mm_E) (c : Int), mEy y M M' P c → (∀ a' b' t d, P a' b' t d ↔ me_two (mY M y) a b a' b' t d) → c = me_cn (mY M y) a b → Po (3, 0, 0) g M' := fun M' P c k1 k2 k3 => hP M' (mEx_iff k1 k2 k3)
    have at128 : ∀ (r w : Int) (M' : jx_M) (P : mm_E), (w = 1 ∧ me_bh (mY M y) a b ∨ w = 0 ∧ ¬ me_bh (mY M y) a b) → mEy y M M' P (@ite _ (me_rw (mY M y) a b) (Classical.propDecidable _) 2 0) → (∀ a' b' t d, P a' b' t d ↔ (me_rw (mY M y) a b ∧ ((a' = a ∧ b' = b ∧ t = 1 ∧ d = 0) ∨ (a' = b ∧ b' = a ∧ t = 1 ∧ d = 1)))) → jx_V D l (yX13_gatherTwo.cls, cX13_gatherTwo, 5, 3, [], 1, 0, 0, yX13_gatherTwo.name) Po 128 [(73, n1, y), (0, n2, a), (0, n3, b), (0, 0, r), (0, 0, w)] [] (0, 0) g (M') := by
      intro r w M' P hw k1 k2
      have k3 : M' y 20 = M y 20 + _ := k1.1
      unfold me_cn at h3 hcn
      have hc2 : 0 ≤ (@ite Int (me_rw (mY M y) a b) (Classical.propDecidable _) 2 0) := by split <;> omega
      rcases hw with ⟨rfl, hb⟩ | ⟨rfl, hb⟩
      · rw [if_pos hb] at h3
        by_cases hlt : a < b
        · rw [if_pos hlt] at h3
          refine jx_runL (o := jo_X13) (cs := cs_X13_gatherTwo) (hf := jx_nh) jo_X13_ok hc_X13_gatherTwo (jx_HK_nil rfl) (fun p => p == 146) 60 ?_
          simp only [jw, ju, jx_tg, Int.cast_ofNat_Int, Int.reduceAdd, Int.reduceToNat, Nat.reduceAdd, Nat.reduceMul, Nat.reduceBEq, Nat.reduceLeDiff, Int.reduceLE, Int.reduceLT, Int.reduceEq, Int.reduceNeg, Int.reduceSub, Int.reduceMul, not_false_eq_true, true_and, and_true, and_self, Bool.or_false, Bool.false_or, Bool.or_true, Bool.true_or, List.length_nil, List.length_cons, Nat.zero_le, or_true, true_or, Nat.le_refl, ↓reduceIte, Nat.reduceEqDiff, forall_const, false_and, and_false, false_implies, implies_true, not_true_eq_false, or_false, false_or, ne_eq, jd_X13_gatherTwo, jf_X13, js_X13_enter, js_X13_isOfRow, cs_X13_gatherTwo, jx_ck_c]
          refine ⟨by omega, fun c => by omega, fun c => ⟨by omega, ?_⟩⟩
          have k4 : mEy y M' (mu_enter M' y a b 1 0) (mm_E1 a b 1 0) 1 := mEy_ent (by omega)
          have k4a : (mu_enter M' y a b 1 0) y 20 = M' y 20 + 1 := k4.1
          refine jx_runL (o := jo_X13) (cs := cs_X13_gatherTwo) (hf := jx_nh) jo_X13_ok hc_X13_gatherTwo (jx_HK_nil rfl) (fun _ => false) 60 ?_
          simp only [jw, ju, jx_tg, Int.cast_ofNat_Int, Int.reduceAdd, Int.reduceToNat, Nat.reduceAdd, Nat.reduceMul, Nat.reduceBEq, Nat.reduceLeDiff, Int.reduceLE, Int.reduceLT, Int.reduceEq, Int.reduceNeg, Int.reduceSub, Int.reduceMul, not_false_eq_true, true_and, and_true, and_self, Bool.or_false, Bool.false_or, Bool.or_true, Bool.true_or, List.length_nil, List.length_cons, Nat.zero_le, or_true, true_or, Nat.le_refl, ↓reduceIte, Nat.reduceEqDiff, forall_const, false_and, and_false, false_implies, implies_true, not_true_eq_false, or_false, false_or, ne_eq, jd_X13_gatherTwo, jf_X13, js_X13_enter, js_X13_isOfRow, cs_X13_gatherTwo, jx_ck_c]
          have k4b : mu_enter M' y a b 1 0 = jx_u (jx_u (jx_u (jx_u (jx_u M' (y + 15) (M' y 20) a) (y + 16) (M' y 20) b) (y + 17) (M' y 20) 1) (y + 18) (M' y 20) 0) y 20 (M' y 20 + 1) := rfl
          refine ⟨by first | omega | (simp only [← k4b]; omega), fin _ _ _ (mEx_tr k1 (mEx_tr k4 (mEy_ent (y := y) (M := mu_enter M' y a b 1 0) (by omega)))) (fun a' b' t d => ?_) ?_⟩
          · unfold mm_EU mm_E1 me_two
            rw [k2]
            constructor
            · rintro (z | z | z)
              · exact Or.inl z
              · exact Or.inr ⟨hb, Or.inl ⟨hlt, z⟩⟩
              · exact Or.inr ⟨hb, Or.inr z⟩
            · rintro (z | ⟨_, z | z⟩)
              · exact Or.inl z
              · exact Or.inr (Or.inl z.2)
              · exact Or.inr (Or.inr z)
          · unfold me_cn
            rw [if_pos hb, if_pos hlt]
            rfl
        · rw [if_neg hlt] at h3
          refine jx_runL (o := jo_X13) (cs := cs_X13_gatherTwo) (hf := jx_nh) jo_X13_ok hc_X13_gatherTwo (jx_HK_nil rfl) (fun p => p == 146) 60 ?_
          simp only [jw, ju, jx_tg, Int.cast_ofNat_Int, Int.reduceAdd, Int.reduceToNat, Nat.reduceAdd, Nat.reduceMul, Nat.reduceBEq, Nat.reduceLeDiff, Int.reduceLE, Int.reduceLT, Int.reduceEq, Int.reduceNeg, Int.reduceSub, Int.reduceMul, not_false_eq_true, true_and, and_true, and_self, Bool.or_false, Bool.false_or, Bool.or_true, Bool.true_or, List.length_nil, List.length_cons, Nat.zero_le, or_true, true_or, Nat.le_refl, ↓reduceIte, Nat.reduceEqDiff, forall_const, false_and, and_false, false_implies, implies_true, not_true_eq_false, or_false, false_or, ne_eq, jd_X13_gatherTwo, jf_X13, js_X13_enter, js_X13_isOfRow, cs_X13_gatherTwo, jx_ck_c]
          refine ⟨by omega, fun c => ?_, fun c => by omega⟩
          refine jx_runL (o := jo_X13) (cs := cs_X13_gatherTwo) (hf := jx_nh) jo_X13_ok hc_X13_gatherTwo (jx_HK_nil rfl) (fun _ => false) 60 ?_
          simp only [jw, ju, jx_tg, Int.cast_ofNat_Int, Int.reduceAdd, Int.reduceToNat, Nat.reduceAdd, Nat.reduceMul, Nat.reduceBEq, Nat.reduceLeDiff, Int.reduceLE, Int.reduceLT, Int.reduceEq, Int.reduceNeg, Int.reduceSub, Int.reduceMul, not_false_eq_true, true_and, and_true, and_self, Bool.or_false, Bool.false_or, Bool.or_true, Bool.true_or, List.length_nil, List.length_cons, Nat.zero_le, or_true, true_or, Nat.le_refl, ↓reduceIte, Nat.reduceEqDiff, forall_const, false_and, and_false, false_implies, implies_true, not_true_eq_false, or_false, false_or, ne_eq, jd_X13_gatherTwo, jf_X13, js_X13_enter, js_X13_isOfRow, cs_X13_gatherTwo, jx_ck_c]
          refine ⟨by omega, fin _ _ _ (mEx_tr k1 (mEy_ent (y := y) (M := M') (by omega))) (fun a' b' t d => ?_) ?_⟩
          · unfold mm_EU mm_E1 me_two
            rw [k2]
            constructor
            · rintro (z | z)
              · exact Or.inl z
              · exact Or.inr ⟨hb, Or.inr z⟩
            · rintro (z | ⟨_, z | z⟩)
              · exact Or.inl z
              · exact absurd z.1 hlt
              · exact Or.inr z
          · unfold me_cn
            rw [if_pos hb, if_neg hlt]
      · refine jx_runL (o := jo_X13) (cs := cs_X13_gatherTwo) (hf := jx_nh) jo_X13_ok hc_X13_gatherTwo (jx_HK_nil rfl) (fun p => p == 146) 60 ?_
        simp only [jw, ju, jx_tg, Int.cast_ofNat_Int, Int.reduceAdd, Int.reduceToNat, Nat.reduceAdd, Nat.reduceMul, Nat.reduceBEq, Nat.reduceLeDiff, Int.reduceLE, Int.reduceLT, Int.reduceEq, Int.reduceNeg, Int.reduceSub, Int.reduceMul, not_false_eq_true, true_and, and_true, and_self, Bool.or_false, Bool.false_or, Bool.or_true, Bool.true_or, List.length_nil, List.length_cons, Nat.zero_le, or_true, true_or, Nat.le_refl, ↓reduceIte, Nat.reduceEqDiff, forall_const, false_and, and_false, false_implies, implies_true, not_true_eq_false, or_false, false_or, ne_eq, jd_X13_gatherTwo, jf_X13, js_X13_enter, js_X13_isOfRow, cs_X13_gatherTwo, jx_ck_c]
        refine jx_runL (o := jo_X13) (cs := cs_X13_gatherTwo) (hf := jx_nh) jo_X13_ok hc_X13_gatherTwo (jx_HK_nil rfl) (fun _ => false) 60 ?_
        simp only [jw, ju, jx_tg, Int.cast_ofNat_Int, Int.reduceAdd, Int.reduceToNat, Nat.reduceAdd, Nat.reduceMul, Nat.reduceBEq, Nat.reduceLeDiff, Int.reduceLE, Int.reduceLT, Int.reduceEq, Int.reduceNeg, Int.reduceSub, Int.reduceMul, not_false_eq_true, true_and, and_true, and_self, Bool.or_false, Bool.false_or, Bool.or_true, Bool.true_or, List.length_nil, List.length_cons, Nat.zero_le, or_true, true_or, Nat.le_refl, ↓reduceIte, Nat.reduceEqDiff, forall_const, false_and, and_false, false_implies, implies_true, not_true_eq_false, or_false, false_or, ne_eq, jd_X13_gatherTwo, jf_X13, js_X13_enter, js_X13_isOfRow, cs_X13_gatherTwo, jx_ck_c]
        refine fin _ _ _ k1 (fun a' b' t d => ?_) ?_
        · unfold me_two
          rw [k2]
          exact ⟨Or.inl, fun z => z.elim (fun w => w) (fun w => absurd w.1 hb)⟩
        · unfold me_cn
          rw [if_neg hb]
          omega
    have at86 : ∀ (r : Int) (M' : jx_M) (P : mm_E), mEy y M M' P (@ite _ (me_rw (mY M y) a b) (Classical.propDecidable _) 2 0) → (∀ a' b' t d, P a' b' t d ↔ (me_rw (mY M y) a b ∧ ((a' = a ∧ b' = b ∧ t = 1 ∧ d = 0) ∨ (a' = b ∧ b' = a ∧ t = 1 ∧ d = 1)))) → jx_V D l (yX13_gatherTwo.cls, cX13_gatherTwo, 5, 3, [], 1, 0, 0, yX13_gatherTwo.name) Po 86 [(73, n1, y), (0, n2, a), (0, n3, b), (0, 0, r), (5, 0, 0)] [] (0, 0) g (M') := by
      intro r M' P k1 k2
      have e1 : M' (y + 1) a = M (y + 1) a := mEy_off k1 (by omega) (by omega)
      have e2 : M' (y + 1) b = M (y + 1) b := mEy_off k1 (by omega) (by omega)
      have aw := fun w hw => at128 r w M' P hw k1 k2
      unfold me_bh at aw
      simp only [mY_j] at aw
      refine jx_runL (o := jo_X13) (cs := cs_X13_gatherTwo) (hf := jx_nh) jo_X13_ok hc_X13_gatherTwo (jx_HK_nil rfl) (fun p => p == 128) 60 ?_
      simp only [jw, ju, jx_tg, Int.cast_ofNat_Int, Int.reduceAdd, Int.reduceToNat, Nat.reduceAdd, Nat.reduceMul, Nat.reduceBEq, Nat.reduceLeDiff, Int.reduceLE, Int.reduceLT, Int.reduceEq, Int.reduceNeg, Int.reduceSub, Int.reduceMul, not_false_eq_true, true_and, and_true, and_self, Bool.or_false, Bool.false_or, Bool.or_true, Bool.true_or, List.length_nil, List.length_cons, Nat.zero_le, or_true, true_or, Nat.le_refl, ↓reduceIte, Nat.reduceEqDiff, forall_const, false_and, and_false, false_implies, implies_true, not_true_eq_false, or_false, false_or, ne_eq, jd_X13_gatherTwo, jf_X13, e1, e2, js_X13_enter, js_X13_isOfRow, cs_X13_gatherTwo, jx_ck_c]
      refine ⟨h2, r2, fun c => aw 0 (by omega), fun c => ⟨by omega, fun c2 => aw 0 (by omega), fun c2 => ⟨h1, by omega, fun c3 => aw 0 (by omega), fun c3 => ⟨h1, by omega, fun c4 => aw 0 (by omega), fun c4 => aw 1 (by omega)⟩⟩⟩⟩
    have at62 : ∀ r : Int, (r = 1 ∧ me_rw (mY M y) a b ∨ r = 0 ∧ ¬ me_rw (mY M y) a b) → jx_V D l (yX13_gatherTwo.cls, cX13_gatherTwo, 5, 3, [], 1, 0, 0, yX13_gatherTwo.name) Po 62 [(73, n1, y), (0, n2, a), (0, n3, b), (0, 0, r), (5, 0, 0)] [] (0, 0) g (M) := by
      intro r hr
      unfold me_cn at h3
      have hc2 : 0 ≤ (@ite Int (me_bh (mY M y) a b) (Classical.propDecidable _) (if a < b then 2 else 1) 0) := by
        split
        · split <;> omega
        · omega
      rcases hr with ⟨rfl, hb⟩ | ⟨rfl, hb⟩
      · rw [if_pos hb] at h3
        have k4 : mEy y M (mu_enter M y a b 1 0) (mm_E1 a b 1 0) 1 := mEy_ent (by omega)
        have k4a : (mu_enter M y a b 1 0) y 20 = M y 20 + 1 := k4.1
        refine jx_runL (o := jo_X13) (cs := cs_X13_gatherTwo) (hf := jx_nh) jo_X13_ok hc_X13_gatherTwo (jx_HK_nil rfl) (fun p => p == 74) 60 ?_
        simp only [jw, ju, jx_tg, Int.cast_ofNat_Int, Int.reduceAdd, Int.reduceToNat, Nat.reduceAdd, Nat.reduceMul, Nat.reduceBEq, Nat.reduceLeDiff, Int.reduceLE, Int.reduceLT, Int.reduceEq, Int.reduceNeg, Int.reduceSub, Int.reduceMul, not_false_eq_true, true_and, and_true, and_self, Bool.or_false, Bool.false_or, Bool.or_true, Bool.true_or, List.length_nil, List.length_cons, Nat.zero_le, or_true, true_or, Nat.le_refl, ↓reduceIte, Nat.reduceEqDiff, forall_const, false_and, and_false, false_implies, implies_true, not_true_eq_false, or_false, false_or, ne_eq, jd_X13_gatherTwo, jf_X13, js_X13_enter, js_X13_isOfRow, cs_X13_gatherTwo, jx_ck_c]
        refine ⟨by omega, ?_⟩
        refine jx_runL (o := jo_X13) (cs := cs_X13_gatherTwo) (hf := jx_nh) jo_X13_ok hc_X13_gatherTwo (jx_HK_nil rfl) (fun p => p == 86) 60 ?_
        simp only [jw, ju, jx_tg, Int.cast_ofNat_Int, Int.reduceAdd, Int.reduceToNat, Nat.reduceAdd, Nat.reduceMul, Nat.reduceBEq, Nat.reduceLeDiff, Int.reduceLE, Int.reduceLT, Int.reduceEq, Int.reduceNeg, Int.reduceSub, Int.reduceMul, not_false_eq_true, true_and, and_true, and_self, Bool.or_false, Bool.false_or, Bool.or_true, Bool.true_or, List.length_nil, List.length_cons, Nat.zero_le, or_true, true_or, Nat.le_refl, ↓reduceIte, Nat.reduceEqDiff, forall_const, false_and, and_false, false_implies, implies_true, not_true_eq_false, or_false, false_or, ne_eq, jd_X13_gatherTwo, jf_X13, js_X13_enter, js_X13_isOfRow, cs_X13_gatherTwo, jx_ck_c]
        have k4b : mu_enter M y a b 1 0 = jx_u (jx_u (jx_u (jx_u (jx_u M (y + 15) (M y 20) a) (y + 16) (M y 20) b) (y + 17) (M y 20) 1) (y + 18) (M y 20) 0) y 20 (M y 20 + 1) := rfl
        refine ⟨by first | omega | (simp only [← k4b]; omega), at86 1 _ _ (mEx_iff (mEx_tr k4 (mEy_ent (y := y) (M := mu_enter M y a b 1 0) (by omega))) (fun _ _ _ _ => Iff.rfl) (by rw [if_pos hb]; decide)) (fun a' b' t d => ?_)⟩
        unfold mm_EU mm_E1
        exact ⟨fun z => ⟨hb, z⟩, fun z => z.2⟩
      · refine jx_runL (o := jo_X13) (cs := cs_X13_gatherTwo) (hf := jx_nh) jo_X13_ok hc_X13_gatherTwo (jx_HK_nil rfl) (fun p => p == 74) 60 ?_
        simp only [jw, ju, jx_tg, Int.cast_ofNat_Int, Int.reduceAdd, Int.reduceToNat, Nat.reduceAdd, Nat.reduceMul, Nat.reduceBEq, Nat.reduceLeDiff, Int.reduceLE, Int.reduceLT, Int.reduceEq, Int.reduceNeg, Int.reduceSub, Int.reduceMul, not_false_eq_true, true_and, and_true, and_self, Bool.or_false, Bool.false_or, Bool.or_true, Bool.true_or, List.length_nil, List.length_cons, Nat.zero_le, or_true, true_or, Nat.le_refl, ↓reduceIte, Nat.reduceEqDiff, forall_const, false_and, and_false, false_implies, implies_true, not_true_eq_false, or_false, false_or, ne_eq, jd_X13_gatherTwo, jf_X13, js_X13_enter, js_X13_isOfRow, cs_X13_gatherTwo, jx_ck_c]
        refine jx_runL (o := jo_X13) (cs := cs_X13_gatherTwo) (hf := jx_nh) jo_X13_ok hc_X13_gatherTwo (jx_HK_nil rfl) (fun p => p == 86) 60 ?_
        simp only [jw, ju, jx_tg, Int.cast_ofNat_Int, Int.reduceAdd, Int.reduceToNat, Nat.reduceAdd, Nat.reduceMul, Nat.reduceBEq, Nat.reduceLeDiff, Int.reduceLE, Int.reduceLT, Int.reduceEq, Int.reduceNeg, Int.reduceSub, Int.reduceMul, not_false_eq_true, true_and, and_true, and_self, Bool.or_false, Bool.false_or, Bool.or_true, Bool.true_or, List.length_nil, List.length_cons, Nat.zero_le, or_true, true_or, Nat.le_refl, ↓reduceIte, Nat.reduceEqDiff, forall_const, false_and, and_false, false_implies, implies_true, not_true_eq_false, or_false, false_or, ne_eq, jd_X13_gatherTwo, jf_X13, js_X13_enter, js_X13_isOfRow, cs_X13_gatherTwo, jx_ck_c]
        refine at86 0 M _ (mEx_iff mEx_rf (fun _ _ _ _ => Iff.rfl) (by rw [if_neg hb])) (fun a' b' t d => ⟨fun z => z.elim, fun z => absurd z.1 hb⟩)
    unfold me_rw at at62
    simp only [mY_j] at at62
    refine jx_runL (o := jo_X13) (cs := cs_X13_gatherTwo) (hf := jx_nh) jo_X13_ok hc_X13_gatherTwo (jx_HK_nil rfl) (fun p => p == 62) 60 ?_
    simp only [jw, ju, jx_tg, Int.cast_ofNat_Int, Int.reduceAdd, Int.reduceToNat, Nat.reduceAdd, Nat.reduceMul, Nat.reduceBEq, Nat.reduceLeDiff, Int.reduceLE, Int.reduceLT, Int.reduceEq, Int.reduceNeg, Int.reduceSub, Int.reduceMul, not_false_eq_true, true_and, and_true, and_self, Bool.or_false, Bool.false_or, Bool.or_true, Bool.true_or, List.length_nil, List.length_cons, Nat.zero_le, or_true, true_or, Nat.le_refl, ↓reduceIte, Nat.reduceEqDiff, forall_const, false_and, and_false, false_implies, implies_true, not_true_eq_false, or_false, false_or, ne_eq, jd_X13_gatherTwo, jf_X13, js_X13_enter, js_X13_isOfRow, cs_X13_gatherTwo, jx_ck_c]
    refine ⟨by omega, fun c => at62 0 (by omega), fun c => ⟨h1, r1, fun c1 => ⟨h2, r2, fun c2 => ⟨h1, h2, ⟨r3, r4⟩, fun c3 => at62 0 (by omega), fun c3 => ⟨h1, by omega, fun c4 => at62 1 (by omega), fun c4 => ⟨h2, by omega, fun c5 => at62 0 (by omega), fun c5 => at62 1 (by omega)⟩⟩⟩, fun c2 => at62 0 (by omega)⟩, fun c1 => at62 0 (by omega)⟩⟩
  · exact hS.elim
