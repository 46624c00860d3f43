/-! LoopLane: findEdges, changed, added -/
set_option maxRecDepth 100000
def rFE (x : Int) (S : jx_M) (M M' : jx_M) : Prop := rEd x S M' ∧ ∀ z k : Int, ¬ (x + 26 ≤ z ∧ z ≤ x + 29) → ¬ (z = x ∧ (k = 23 ∨ k = 24)) → M' z k = M z k
def js_X0_findEdges : jx_Sp := fun as g M Po => match as with
  | [(60, _, x)] => ∃ S, (0 ≤ x ∧ rBd x S g M ∧ mB S) ∧ ∀ M', rFE x S M M' → Po (3, 0, 0) g M'
  | _ => False
def cs_X0_findEdges : jx_Cs := [(105, 1, 0, 0, ja_sort), (132, 1, 0, 0, ja_slot), (141, 5, 0, 0, js_X0_link), (195, 2, 0, 0, js_X0_linkRows), (207, 2, 0, 0, js_X0_linkStore)]
theorem hc_X0_findEdges {D : jx_D} {l : Launch} : jx_CsOK D l "LoopLane" 3 cs_X0_findEdges := List.forall_mem_cons.mpr ⟨jz_sort (by decide), List.forall_mem_cons.mpr ⟨jz_slot (by decide), List.forall_mem_cons.mpr ⟨jc_X0_47 (jt_X0_link l) (fun as g M Po (h : js_X0_link as g M Po) => by unfold js_X0_link at h; split at h <;> first | exact h.elim | exact ⟨_, _, _, rfl, rfl⟩) (by decide), List.forall_mem_cons.mpr ⟨jc_X0_65 (jt_X0_linkRows l) (fun as g M Po (h : js_X0_linkRows as g M Po) => by unfold js_X0_linkRows at h; split at h <;> first | exact h.elim | exact ⟨_, _, _, rfl, rfl⟩) (by decide), List.forall_mem_cons.mpr ⟨jc_X0_69 (jt_X0_linkStore l) (fun as g M Po (h : js_X0_linkStore as g M Po) => by unfold js_X0_linkStore at h; split at h <;> first | exact h.elim | exact ⟨_, _, _, rfl, rfl⟩) (by decide), fun _ h => absurd h List.not_mem_nil⟩⟩⟩⟩⟩
set_option maxHeartbeats 4000000 in
theorem jt_X0_findEdges (l : Launch) : jx_Ct l yX0_findEdges (ws_ yX0_findEdges cX0_findEdges 4 none) 3 0 0 js_X0_findEdges := by
  refine jx_Ct_c (rc := 3) (by decide) rfl (fun D as g M Po hS => ?_)
  unfold js_X0_findEdges at hS
  split at hS
  · rename_i n1 x
    obtain ⟨S, ⟨hx, hR, hB⟩, hP⟩ := hS
    have h9 := hB.1
    have h15 := hB.2.1
    refine ⟨Nat.le_of_ble_eq_true rfl, ?_⟩
    obtain ⟨M0, hM0⟩ : ∃ q, q = jx_u M x 23 0 := ⟨_, rfl⟩
    have m0a : M0 x 23 = 0 := by rw [hM0, jx_u_eq]
    have m0b : ∀ z k : Int, ¬ (z = x ∧ k = 23) → M0 z k = M z k := fun z k h => by rw [hM0]; exact if_neg h
    have R0 : rBd x S g M0 := rBd_c h9.2 hR (fun z k q => m0b z k (by unfold qBd at q; omega))
    have told : ∀ (f e : Nat) (M1 M' : jx_M) (P2 P3 : jx_A), (e : Int) + f = S 0 15 → rBd x S g M1 → M1 x 24 = me_n S → M1 x 23 = me_n S → mm_EO (me_body S (S 0 9)) (M1 (x + 26)) (M1 (x + 27)) (M1 (x + 28)) (M1 (x + 29)) (M1 x 23) → (∀ z k : Int, ¬ (x + 26 ≤ z ∧ z ≤ x + 29) → ¬ (z = x ∧ (k = 23 ∨ k = 24)) → M1 z k = M z k) → rEx x M1 M' (me_tld S e) e → jx_V D l (yX0_findEdges.cls, cX0_findEdges, 4, 3, [], 3, 0, 0, yX0_findEdges.name) Po 134 [(60, n1, x), (0, 0, (e : Int)), P2, P3] [] (0, 0) g (M') := by
      have hnr := me_n_r (S := S) h9
      intro f
      induction f with
      | zero =>
        intro e M1 M' P2 P3 he r1 e24 e23 k0 k1 k2
        have R' := rEx_B h9.2 k2 r1
        refine jx_runL (o := jo_X0) (cs := cs_X0_findEdges) (hf := jx_nh) jo_X0_ok hc_X0_findEdges (jx_HK_nil rfl) (fun p => p == 134) 20 ?_
        simp only [jw, ju, jx_tg, Int.cast_ofNat_Int, Int.reduceAdd, Int.reduceToNat, Nat.reduceAdd, Nat.reduceMul, Nat.reduceBEq, Nat.reduceLeDiff, Int.reduceLE, Int.reduceLT, Int.reduceEq, Int.reduceNeg, Int.reduceSub, Int.reduceMul, not_false_eq_true, true_and, and_true, and_self, Bool.or_false, Bool.false_or, Bool.or_true, Bool.true_or, List.length_nil, List.length_cons, Nat.zero_le, or_true, true_or, Nat.le_refl, ↓reduceIte, Nat.reduceEqDiff, forall_const, false_and, and_false, false_implies, implies_true, not_true_eq_false, or_false, false_or, ne_eq, jd_X0_findEdges, jf_X0, R'.2.1, ja_slot, ja_sort, js_X0_link, js_X0_linkRows, js_X0_linkStore, cs_X0_findEdges, jx_ck_c]
        refine ⟨by omega, fun c => hP M' ⟨⟨?_, ?_, ?_⟩, fun z k q1 q2 => ?_⟩, fun c => by omega⟩
        · rw [k2.1, e23]; omega
        · rw [k2.2.2 x 24 (by omega) (by omega) (by omega) (by omega) (by omega)]; exact e24
        · refine mm_EO_iff (k2.2.1 _ k0) (fun a b t d => ?_)
          unfold me_all
          rw [show S 0 15 = (e : Int) by omega]
        · rw [k2.2.2 z k (by omega) (by omega) (by omega) (by omega) (by omega)]; exact k1 z k q1 q2
      | succ f ih =>
        intro e M1 M' P2 P3 he r1 e24 e23 k0 k1 k2
        have R' := rEx_B h9.2 k2 r1
        have t := R'.2.2.2.2 e (by omega) (by omega)
        have e1 := k2.1
        have k3 : rEx x M' (xu_link M' x (S 11 e) (S 12 e) (S 13 e) (S 14 e)) (mm_E1 (S 11 e) (S 12 e) (S 13 e) (S 14 e)) 1 := rEx_ent (by omega)
        refine jx_runL (o := jo_X0) (cs := cs_X0_findEdges) (hf := jx_nh) jo_X0_ok hc_X0_findEdges (jx_HK_nil rfl) (fun p => p == 134) 40 ?_
        simp only [jw, ju, jx_tg, Int.cast_ofNat_Int, Int.reduceAdd, Int.reduceToNat, Nat.reduceAdd, Nat.reduceMul, Nat.reduceBEq, Nat.reduceLeDiff, Int.reduceLE, Int.reduceLT, Int.reduceEq, Int.reduceNeg, Int.reduceSub, Int.reduceMul, not_false_eq_true, true_and, and_true, and_self, Bool.or_false, Bool.false_or, Bool.or_true, Bool.true_or, List.length_nil, List.length_cons, Nat.zero_le, or_true, true_or, Nat.le_refl, ↓reduceIte, Nat.reduceEqDiff, forall_const, false_and, and_false, false_implies, implies_true, not_true_eq_false, or_false, false_or, ne_eq, jd_X0_findEdges, jf_X0, R'.2.1, t.1, t.2.1, t.2.2.1, t.2.2.2, ja_slot, ja_sort, js_X0_link, js_X0_linkRows, js_X0_linkStore, cs_X0_findEdges, jx_ck_c]
        refine ⟨by omega, fun c => by omega, fun c => ⟨by omega, by omega, by omega, by omega, by omega, ?_⟩⟩
        have := ih (e + 1) M1 _ P2 P3 (by omega) r1 e24 e23 k0 k1 (mEx_iff (mEx_tr k2 k3) (fun a b t d => ⟨fun z => ?_, fun z => ?_⟩) (by omega))
        · rw [show (((e + 1 : Nat) : Int)) = (e : Int) + 1 by omega] at this
          exact this
        · rcases z with ⟨i, i0, i1, i2⟩ | z
          · exact ⟨i, i0, by omega, i2⟩
          · exact ⟨e, by omega, by omega, z⟩
        · obtain ⟨i, i0, i1, i2⟩ := z
          rcases (show i < (e : Int) ∨ i = e by omega) with w | w
          · exact .inl ⟨i, i0, w, i2⟩
          · rw [w] at i2; exact .inr i2
    have body : ∀ (f b : Nat) (M' : jx_M) (P2 P3 : jx_A), (b : Int) + f = S 0 9 → rEx x M0 M' (xe_body S b) (mm_sum (xe_c S) b) → jx_V D l (yX0_findEdges.cls, cX0_findEdges, 4, 3, [], 3, 0, 0, yX0_findEdges.name) Po 7 [(60, n1, x), (0, 0, (b : Int)), P2, P3] [] (0, 0) g (M') := by
      intro f
      induction f with
      | zero =>
        intro b M' P2 P3 hb k1
        have R' := rEx_B h9.2 k1 R0
        have ec : mm_sum (xe_c S) b = me_n S := by rw [← xe_n, show (S 0 9).toNat = b by omega]
        have e23 : M' x 23 = me_n S := by rw [k1.1, m0a, ec]; omega
        refine jx_runL (o := jo_X0) (cs := cs_X0_findEdges) (hf := jx_nh) jo_X0_ok hc_X0_findEdges (jx_HK_nil rfl) (fun p => p == 134) 20 ?_
        simp only [jw, ju, jx_tg, Int.cast_ofNat_Int, Int.reduceAdd, Int.reduceToNat, Nat.reduceAdd, Nat.reduceMul, Nat.reduceBEq, Nat.reduceLeDiff, Int.reduceLE, Int.reduceLT, Int.reduceEq, Int.reduceNeg, Int.reduceSub, Int.reduceMul, not_false_eq_true, true_and, and_true, and_self, Bool.or_false, Bool.false_or, Bool.or_true, Bool.true_or, List.length_nil, List.length_cons, Nat.zero_le, or_true, true_or, Nat.le_refl, ↓reduceIte, Nat.reduceEqDiff, forall_const, false_and, and_false, false_implies, implies_true, not_true_eq_false, or_false, false_or, ne_eq, jd_X0_findEdges, jf_X0, R'.1, ja_slot, ja_sort, js_X0_link, js_X0_linkRows, js_X0_linkStore, cs_X0_findEdges, jx_ck_c]
        refine ⟨by omega, fun c => told (S 0 15).toNat 0 (jx_u M' x 24 (M' x 23)) _ _ _ (by omega) (rBd_c h9.2 R' (fun z k q => if_neg (by unfold qBd at q; omega))) (by rw [jx_u_eq]; exact e23) (by rw [jx_u_j _ _ _ _ _ _ (by decide)]; exact e23) ?_ (fun z k q1 q2 => ?_) (mEx_iff mEx_rf (fun a b t d => ⟨fun z => z.elim, fun ⟨i, i0, i1, i2⟩ => by omega⟩) rfl), fun c => by omega⟩
        · have ea : ∀ j, j ≠ 0 → jx_u M' x 24 (M' x 23) (x + j) = M' (x + j) := fun j hj => funext fun k => jx_u_a _ _ _ _ _ _ (by omega)
          rw [ea 26 (by decide), ea 27 (by decide), ea 28 (by decide), ea 29 (by decide), jx_u_j _ _ _ _ _ _ (by decide)]
          refine mm_EO_iff (k1.2.1 mm_E0 (by rw [m0a]; exact mm_EO_0)) (fun a b' t d => ?_)
          rw [← xe_body_iff, show S 0 9 = (b : Int) by omega]
          exact ⟨fun z => z.elim (fun w => w.elim) id, .inr⟩
        · rw [show jx_u M' x 24 (M' x 23) z k = M' z k from if_neg (by omega), k1.2.2 z k (by omega) (by omega) (by omega) (by omega) (by omega), m0b z k (by omega)]
      | succ f ih =>
        intro b M' P2 P3 hb k1
        have room := xe_room h9 (b := b) (by omega)
        have ecb : xe_c S b = me_co S b 3 + (xe_cr S b (S 0 9).toNat + xe_1 S b) + xe_cs S b (S 0 9).toNat := rfl
        have cr := xe_cr_r (S := S) (a := b) (S 0 9).toNat
        have cs := xe_cs_r (S := S) (a := b) (S 0 9).toNat
        have c1 := xe_1_r (S := S) (a := b)
        have co := me_co_r (S := S) (b := b) 3
        have wb := hB.2.2.1 b (by omega) (by omega)
        have hn := mm_nop_3 (S 1 b)
        have esum : mm_sum (xe_c S) (b + 1) = mm_sum (xe_c S) b + xe_c S b := rfl
        have nxt : ∀ (M'' : jx_M) (P2 P3 : jx_A), rEx x M0 M'' (mm_EU (xe_body S b) (xe_b S b)) (mm_sum (xe_c S) b + xe_c S b) → jx_V D l (yX0_findEdges.cls, cX0_findEdges, 4, 3, [], 3, 0, 0, yX0_findEdges.name) Po 118 [(60, n1, x), (0, 0, (b : Int)), P2, P3] [] (0, 0) g (M'') := by
          intro M'' P2 P3 k2
          refine jx_runL (o := jo_X0) (cs := cs_X0_findEdges) (hf := jx_nh) jo_X0_ok hc_X0_findEdges (jx_HK_nil rfl) (fun p => p == 7) 20 ?_
          simp only [jw, ju, jx_tg, Int.cast_ofNat_Int, Int.reduceAdd, Int.reduceToNat, Nat.reduceAdd, Nat.reduceMul, Nat.reduceBEq, Nat.reduceLeDiff, Int.reduceLE, Int.reduceLT, Int.reduceEq, Int.reduceNeg, Int.reduceSub, Int.reduceMul, not_false_eq_true, true_and, and_true, and_self, Bool.or_false, Bool.false_or, Bool.or_true, Bool.true_or, List.length_nil, List.length_cons, Nat.zero_le, or_true, true_or, Nat.le_refl, ↓reduceIte, Nat.reduceEqDiff, forall_const, false_and, and_false, false_implies, implies_true, not_true_eq_false, or_false, false_or, ne_eq, jd_X0_findEdges, jf_X0, ja_slot, ja_sort, js_X0_link, js_X0_linkRows, js_X0_linkStore, cs_X0_findEdges, jx_ck_c]
          have := ih (b + 1) M'' P2 P3 (by omega) (mEx_iff k2 (fun a b' t d => ⟨fun z => ?_, fun z => ?_⟩) (by omega))
          · rw [show (((b + 1 : Nat) : Int)) = (b : Int) + 1 by omega] at this
            exact this
          · rcases z with ⟨i, i0, i1, i2⟩ | z
            · exact ⟨i, i0, by omega, i2⟩
            · exact ⟨b, by omega, by omega, z⟩
          · obtain ⟨i, i0, i1, i2⟩ := z
            rcases (show i < (b : Int) ∨ i = b by omega) with w | w
            · exact .inl ⟨i, i0, w, i2⟩
            · rw [w] at i2; exact .inr i2
        have at100 : ∀ (M'' : jx_M) (P2 P3 : jx_A), rEx x M0 M'' (mm_EU (xe_body S b) (mm_EU (me_ops S b 3) (mm_EU (xe_rw S b (S 0 9)) (xe_sf S b)))) (mm_sum (xe_c S) b + (me_co S b 3 + (xe_cr S b (S 0 9).toNat + xe_1 S b))) → jx_V D l (yX0_findEdges.cls, cX0_findEdges, 4, 3, [], 3, 0, 0, yX0_findEdges.name) Po 100 [(60, n1, x), (0, 0, (b : Int)), P2, P3] [] (0, 0) g (M'') := by
          intro M'' P2 P3 k2
          have R' := rEx_B h9.2 k2 R0
          have hA := R'.2.2.1 b (by omega) (by omega)
          have e1 := k2.1
          refine jx_runL (o := jo_X0) (cs := cs_X0_findEdges) (hf := jx_nh) jo_X0_ok hc_X0_findEdges (jx_HK_nil rfl) (fun p => p == 118) 30 ?_
          simp only [jw, ju, jx_tg, Int.cast_ofNat_Int, Int.reduceAdd, Int.reduceToNat, Nat.reduceAdd, Nat.reduceMul, Nat.reduceBEq, Nat.reduceLeDiff, Int.reduceLE, Int.reduceLT, Int.reduceEq, Int.reduceNeg, Int.reduceSub, Int.reduceMul, not_false_eq_true, true_and, and_true, and_self, Bool.or_false, Bool.false_or, Bool.or_true, Bool.true_or, List.length_nil, List.length_cons, Nat.zero_le, or_true, true_or, Nat.le_refl, ↓reduceIte, Nat.reduceEqDiff, forall_const, false_and, and_false, false_implies, implies_true, not_true_eq_false, or_false, false_or, ne_eq, jd_X0_findEdges, jf_X0, rA_sort hA, ja_slot, ja_sort, js_X0_link, js_X0_linkRows, js_X0_linkStore, cs_X0_findEdges, jx_ck_c]
          refine ⟨by omega, rA_k3 hA hx (by omega), rA_k hA hx (by omega), by omega, fun c => nxt _ _ _ ?_, fun c => ⟨S, ⟨hx, R', hB, by omega, by omega, by omega, by omega⟩, fun M3 k3 => nxt _ _ _ ?_⟩⟩
          · have z0 : xe_cs S b (S 0 9).toNat = 0 := mm_sum_z0 (fun v v0 v1 => by unfold xe_v; rw [if_neg (fun w => c w.1)])
            refine mEx_iff k2 (fun a b' t d => ⟨fun z => z.elim .inl (fun w => .inr (.inl w)), fun z => z.elim .inl (fun w => w.elim .inr (fun ⟨i, i0, i1, i2, i3⟩ => absurd i2.1 c))⟩) (by omega)
          · refine mEx_iff (mEx_tr k2 k3) (fun a b' t d => ⟨fun z => ?_, fun z => ?_⟩) (by omega)
            · rcases z with (z | z) | z
              · exact .inl z
              · exact .inr (.inl z)
              · exact .inr (.inr z)
            · rcases z with z | z | z
              · exact .inl (.inl z)
              · exact .inl (.inr z)
              · exact .inr z
        have at82 : ∀ (M'' : jx_M) (P2 P3 : jx_A), rEx x M0 M'' (mm_EU (xe_body S b) (me_ops S b 3)) (mm_sum (xe_c S) b + me_co S b 3) → jx_V D l (yX0_findEdges.cls, cX0_findEdges, 4, 3, [], 3, 0, 0, yX0_findEdges.name) Po 82 [(60, n1, x), (0, 0, (b : Int)), P2, P3] [] (0, 0) g (M'') := by
          intro M'' P2 P3 k2
          have R' := rEx_B h9.2 k2 R0
          have hA := R'.2.2.1 b (by omega) (by omega)
          have e1 := k2.1
          refine jx_runL (o := jo_X0) (cs := cs_X0_findEdges) (hf := jx_nh) jo_X0_ok hc_X0_findEdges (jx_HK_nil rfl) (fun p => p == 100) 30 ?_
          simp only [jw, ju, jx_tg, Int.cast_ofNat_Int, Int.reduceAdd, Int.reduceToNat, Nat.reduceAdd, Nat.reduceMul, Nat.reduceBEq, Nat.reduceLeDiff, Int.reduceLE, Int.reduceLT, Int.reduceEq, Int.reduceNeg, Int.reduceSub, Int.reduceMul, not_false_eq_true, true_and, and_true, and_self, Bool.or_false, Bool.false_or, Bool.or_true, Bool.true_or, List.length_nil, List.length_cons, Nat.zero_le, or_true, true_or, Nat.le_refl, ↓reduceIte, Nat.reduceEqDiff, forall_const, false_and, and_false, false_implies, implies_true, not_true_eq_false, or_false, false_or, ne_eq, jd_X0_findEdges, jf_X0, rA_slot hA hB (by omega) (by omega), ja_slot, ja_sort, js_X0_link, js_X0_linkRows, js_X0_linkStore, cs_X0_findEdges, jx_ck_c]
          refine ⟨by omega, rA_k3 hA hx (by omega), rA_k hA hx (by omega), by omega, fun c => at100 _ _ _ ?_, fun c => ⟨S, ⟨hx, R', hB, by omega, by omega, by omega, by omega⟩, fun M3 k3 => at100 _ _ _ ?_⟩⟩
          · have z1 : xe_1 S b = 0 := by unfold xe_1; rw [if_neg (by omega)]
            have z0 : xe_cr S b (S 0 9).toNat = 0 := mm_sum_z0 (fun v v0 v1 => by unfold xe_w; rw [if_neg (fun w => by have := w.2.1; omega)])
            refine mEx_iff k2 (fun a b' t d => ⟨fun z => z.elim .inl (fun w => .inr (.inl w)), fun z => z.elim .inl (fun w => w.elim .inr (fun w => w.elim (fun ⟨i, i0, i1, i2, i3⟩ => by have := i2.2.1; omega) (fun w => by have := w.1; omega)))⟩) (by omega)
          · refine mEx_iff (mEx_tr k2 k3) (fun a b' t d => ⟨fun z => ?_, fun z => ?_⟩) (by omega)
            · rcases z with (z | z) | z
              · exact .inl z
              · exact .inr (.inl z)
              · exact .inr (.inr z)
            · rcases z with z | z | z
              · exact .inl (.inl z)
              · exact .inl (.inr z)
              · exact .inr z
        have ops : ∀ (q i : Nat) (M'' : jx_M) (P3 : jx_A), (i : Int) + q = mm_nop (S 1 b) → rEx x M0 M'' (mm_EU (xe_body S b) (me_ops S b i)) (mm_sum (xe_c S) b + me_co S b i) → jx_V D l (yX0_findEdges.cls, cX0_findEdges, 4, 3, [], 3, 0, 0, yX0_findEdges.name) Po 17 [(60, n1, x), (0, 0, (b : Int)), (0, 0, (i : Int)), P3] [] (0, 0) g (M'') := by
          intro q
          induction q with
          | zero =>
            intro i M'' P3 hi k2
            have R' := rEx_B h9.2 k2 R0
            have hA := R'.2.2.1 b (by omega) (by omega)
            -- no operand beyond
            have non : ∀ k, 3 * (b : Int) + i ≤ k → k < 3 * (b : Int) + 3 → ¬ me_op S k := fun k q1 q2 w => by
              have := (hB.2.2.2.1 b (k - 3 * b) (by omega) (by omega) (by omega) (by omega)).2 (by omega)
              rw [show 3 * (b : Int) + (k - 3 * b) = k by omega] at this
              unfold me_op at w
              omega
            have eco : ∀ j : Nat, i ≤ j → j ≤ 3 → me_co S b j = me_co S b i := fun j => by
              induction j with
              | zero => intro q1 _; rw [show i = 0 by omega]
              | succ j ij =>
                intro q1 q2
                by_cases c : i = j + 1
                · rw [c]
                · show me_co S b j + me_c1 S (3 * b + j) = _
                  rw [ij (by omega) (by omega), show me_c1 S (3 * b + j) = 0 by unfold me_c1; rw [if_neg (non _ (by omega) (by omega))]]
                  omega
            refine jx_runL (o := jo_X0) (cs := cs_X0_findEdges) (hf := jx_nh) jo_X0_ok hc_X0_findEdges (jx_HK_nil rfl) (fun p => p == 82) 30 ?_
            simp only [jw, ju, jx_tg, Int.cast_ofNat_Int, Int.reduceAdd, Int.reduceToNat, Nat.reduceAdd, Nat.reduceMul, Nat.reduceBEq, Nat.reduceLeDiff, Int.reduceLE, Int.reduceLT, Int.reduceEq, Int.reduceNeg, Int.reduceSub, Int.reduceMul, not_false_eq_true, true_and, and_true, and_self, Bool.or_false, Bool.false_or, Bool.or_true, Bool.true_or, List.length_nil, List.length_cons, Nat.zero_le, or_true, true_or, Nat.le_refl, ↓reduceIte, Nat.reduceEqDiff, forall_const, false_and, and_false, false_implies, implies_true, not_true_eq_false, or_false, false_or, ne_eq, jd_X0_findEdges, jf_X0, rA_many hA, ja_slot, ja_sort, js_X0_link, js_X0_linkRows, js_X0_linkStore, cs_X0_findEdges, jx_ck_c]
            refine ⟨by omega, rA_k3 hA hx (by omega), by omega, fun c => at82 _ _ _ (mEx_iff k2 (fun a b' t d => ⟨fun z => z.elim .inl (fun ⟨k, q1, q2, q3⟩ => .inr ⟨k, q1, by omega, q3⟩), fun z => z.elim .inl (fun ⟨k, q1, q2, q3⟩ => .inr ⟨k, q1, ?_, q3⟩)⟩) (by rw [eco 3 (by omega) (by omega)])), fun c => by omega⟩
            apply Classical.byContradiction
            intro w
            exact non k (by omega) q2 q3.1
          | succ q iq =>
            intro i M'' P3 hi k2
            have R' := rEx_B h9.2 k2 R0
            have hA := R'.2.2.1 b (by omega) (by omega)
            have hof := rA_of hA (show 0 ≤ (i : Int) by omega) (by omega)
            have hbk := rA_back hA (show 0 ≤ (i : Int) by omega) (by omega)
            have bo := (hB.2.2.2.1 b i (by omega) (by omega) (by omega) (by omega)).1 (by omega)
            have e1 := k2.1
            have coi := me_co_r (S := S) (b := b) i
            have eco : me_co S b (i + 1) = me_co S b i + me_c1 S (3 * b + i) := rfl
            have c1r := me_c1_r (S := S) (k := 3 * b + i)
            have n76 : ∀ (M3 : jx_M) (P3 : jx_A), rEx x M0 M3 (mm_EU (xe_body S b) (me_ops S b ((i : Int) + 1))) (mm_sum (xe_c S) b + (me_co S b i + me_c1 S (3 * b + i))) → jx_V D l (yX0_findEdges.cls, cX0_findEdges, 4, 3, [], 3, 0, 0, yX0_findEdges.name) Po 76 [(60, n1, x), (0, 0, (b : Int)), (0, 0, (i : Int)), P3] [] (0, 0) g (M3) := by
              intro M3 P3 k3
              refine jx_runL (o := jo_X0) (cs := cs_X0_findEdges) (hf := jx_nh) jo_X0_ok hc_X0_findEdges (jx_HK_nil rfl) (fun p => p == 17) 20 ?_
              simp only [jw, ju, jx_tg, Int.cast_ofNat_Int, Int.reduceAdd, Int.reduceToNat, Nat.reduceAdd, Nat.reduceMul, Nat.reduceBEq, Nat.reduceLeDiff, Int.reduceLE, Int.reduceLT, Int.reduceEq, Int.reduceNeg, Int.reduceSub, Int.reduceMul, not_false_eq_true, true_and, and_true, and_self, Bool.or_false, Bool.false_or, Bool.or_true, Bool.true_or, List.length_nil, List.length_cons, Nat.zero_le, or_true, true_or, Nat.le_refl, ↓reduceIte, Nat.reduceEqDiff, forall_const, false_and, and_false, false_implies, implies_true, not_true_eq_false, or_false, false_or, ne_eq, jd_X0_findEdges, jf_X0, ja_slot, ja_sort, js_X0_link, js_X0_linkRows, js_X0_linkStore, cs_X0_findEdges, jx_ck_c]
              have := iq (i + 1) M3 P3 (by omega) (by rw [show (((i + 1 : Nat) : Int)) = (i : Int) + 1 by omega]; exact k3)
              rw [show (((i + 1 : Nat) : Int)) = (i : Int) + 1 by omega] at this
              exact this
            by_cases co : S 6 (3 * b + i) < S 0 9
            · have hAo := R'.2.2.1 (S 6 (3 * b + i)) (by omega) co
              have k3 : rEx x M'' (xu_link M'' x (S 6 (3 * b + i)) b (S 2 (S 6 (3 * b + i))) (S 7 (3 * b + i))) (mm_E1 (S 6 (3 * b + i)) b (S 2 (S 6 (3 * b + i))) (S 7 (3 * b + i))) 1 := rEx_ent (by omega)
              have hop : me_op S (3 * b + i) := ⟨by omega, co⟩
              have c11 : me_c1 S (3 * b + i) = 1 := by unfold me_c1; rw [if_pos hop]
              refine jx_runL (o := jo_X0) (cs := cs_X0_findEdges) (hf := jx_nh) jo_X0_ok hc_X0_findEdges (jx_HK_nil rfl) (fun p => p == 76 || p == 82) 50 ?_
              simp only [jw, ju, jx_tg, Int.cast_ofNat_Int, Int.reduceAdd, Int.reduceToNat, Nat.reduceAdd, Nat.reduceMul, Nat.reduceBEq, Nat.reduceLeDiff, Int.reduceLE, Int.reduceLT, Int.reduceEq, Int.reduceNeg, Int.reduceSub, Int.reduceMul, not_false_eq_true, true_and, and_true, and_self, Bool.or_false, Bool.false_or, Bool.or_true, Bool.true_or, List.length_nil, List.length_cons, Nat.zero_le, or_true, true_or, Nat.le_refl, ↓reduceIte, Nat.reduceEqDiff, forall_const, false_and, and_false, false_implies, implies_true, not_true_eq_false, or_false, false_or, ne_eq, jd_X0_findEdges, jf_X0, R'.1, rA_many hA, hof, hbk, rA_lag hAo, ja_slot, ja_sort, js_X0_link, js_X0_linkRows, js_X0_linkStore, cs_X0_findEdges, jx_ck_c]
              refine ⟨by omega, rA_k3 hA hx (by omega), by omega, fun c => by omega, fun c => ⟨by omega, rA_k3 hA hx (by omega), by omega, by omega, fun c2 => by omega, fun c2 => ⟨by omega, rA_k3 hAo hx (by omega), by omega, rA_k3 hA hx (by omega), by omega, by omega, n76 _ _ (mEx_iff (mEx_tr k2 k3) (fun a b' t d => ⟨fun z => ?_, fun z => ?_⟩) (by omega))⟩⟩⟩
              · rcases z with (z | ⟨k, q1, q2, q3⟩) | z
                · exact .inl z
                · exact .inr ⟨k, q1, by omega, q3⟩
                · exact .inr ⟨3 * b + i, by omega, by omega, hop, z⟩
              · rcases z with z | ⟨k, q1, q2, q3, q4⟩
                · exact .inl (.inl z)
                · rcases (show k < 3 * (b : Int) + i ∨ k = 3 * b + i by omega) with w | w
                  · exact .inl (.inr ⟨k, q1, w, q3, q4⟩)
                  · rw [w] at q4; exact .inr q4
            · have hop : ¬ me_op S (3 * b + i) := fun w => co w.2
              have c11 : me_c1 S (3 * b + i) = 0 := by unfold me_c1; rw [if_neg hop]
              refine jx_runL (o := jo_X0) (cs := cs_X0_findEdges) (hf := jx_nh) jo_X0_ok hc_X0_findEdges (jx_HK_nil rfl) (fun p => p == 50 || p == 76 || p == 82) 50 ?_
              simp only [jw, ju, jx_tg, Int.cast_ofNat_Int, Int.reduceAdd, Int.reduceToNat, Nat.reduceAdd, Nat.reduceMul, Nat.reduceBEq, Nat.reduceLeDiff, Int.reduceLE, Int.reduceLT, Int.reduceEq, Int.reduceNeg, Int.reduceSub, Int.reduceMul, not_false_eq_true, true_and, and_true, and_self, Bool.or_false, Bool.false_or, Bool.or_true, Bool.true_or, List.length_nil, List.length_cons, Nat.zero_le, or_true, true_or, Nat.le_refl, ↓reduceIte, Nat.reduceEqDiff, forall_const, false_and, and_false, false_implies, implies_true, not_true_eq_false, or_false, false_or, ne_eq, jd_X0_findEdges, jf_X0, R'.1, rA_many hA, hof, ja_slot, ja_sort, js_X0_link, js_X0_linkRows, js_X0_linkStore, cs_X0_findEdges, jx_ck_c]
              refine ⟨by omega, rA_k3 hA hx (by omega), by omega, fun c => by omega, fun c => ⟨by omega, rA_k3 hA hx (by omega), by omega, by omega, fun c2 => n76 _ _ (mEx_iff k2 (fun a b' t d => ⟨fun z => ?_, fun z => ?_⟩) (by omega)), fun c2 => by omega⟩⟩
              · rcases z with z | ⟨k, q1, q2, q3⟩
                · exact .inl z
                · exact .inr ⟨k, q1, by omega, q3⟩
              · rcases z with z | ⟨k, q1, q2, q3, q4⟩
                · exact .inl z
                · rcases (show k < 3 * (b : Int) + i ∨ k = 3 * b + i by omega) with w | w
                  · exact .inr ⟨k, q1, w, q3, q4⟩
                  · rw [w] at q3; exact absurd q3 hop
        have R' := rEx_B h9.2 k1 R0
        refine jx_runL (o := jo_X0) (cs := cs_X0_findEdges) (hf := jx_nh) jo_X0_ok hc_X0_findEdges (jx_HK_nil rfl) (fun p => p == 17 || p == 124) 20 ?_
        simp only [jw, ju, jx_tg, Int.cast_ofNat_Int, Int.reduceAdd, Int.reduceToNat, Nat.reduceAdd, Nat.reduceMul, Nat.reduceBEq, Nat.reduceLeDiff, Int.reduceLE, Int.reduceLT, Int.reduceEq, Int.reduceNeg, Int.reduceSub, Int.reduceMul, not_false_eq_true, true_and, and_true, and_self, Bool.or_false, Bool.false_or, Bool.or_true, Bool.true_or, List.length_nil, List.length_cons, Nat.zero_le, or_true, true_or, Nat.le_refl, ↓reduceIte, Nat.reduceEqDiff, forall_const, false_and, and_false, false_implies, implies_true, not_true_eq_false, or_false, false_or, ne_eq, jd_X0_findEdges, jf_X0, R'.1, ja_slot, ja_sort, js_X0_link, js_X0_linkRows, js_X0_linkStore, cs_X0_findEdges, jx_ck_c]
        refine ⟨by omega, fun c => by omega, fun c => ops (mm_nop (S 1 b)).toNat 0 M' P3 (by omega) (mEx_iff k1 (fun a b' t d => ⟨.inl, fun z => z.elim id (fun ⟨k, q1, q2, q3⟩ => by omega)⟩) (show mm_sum (xe_c S) b = mm_sum (xe_c S) b + 0 by omega))⟩
    refine jx_runL (o := jo_X0) (cs := cs_X0_findEdges) (hf := jx_nh) jo_X0_ok hc_X0_findEdges (jx_HK_nil rfl) (fun p => p == 7) 20 ?_
    simp only [jw, ju, jx_tg, Int.cast_ofNat_Int, Int.reduceAdd, Int.reduceToNat, Nat.reduceAdd, Nat.reduceMul, Nat.reduceBEq, Nat.reduceLeDiff, Int.reduceLE, Int.reduceLT, Int.reduceEq, Int.reduceNeg, Int.reduceSub, Int.reduceMul, not_false_eq_true, true_and, and_true, and_self, Bool.or_false, Bool.false_or, Bool.or_true, Bool.true_or, List.length_nil, List.length_cons, Nat.zero_le, or_true, true_or, Nat.le_refl, ↓reduceIte, Nat.reduceEqDiff, forall_const, false_and, and_false, false_implies, implies_true, not_true_eq_false, or_false, false_or, ne_eq, jd_X0_findEdges, jf_X0, ja_slot, ja_sort, js_X0_link, js_X0_linkRows, js_X0_linkStore, cs_X0_findEdges, jx_ck_c]
    rw [← hM0]
    exact body (S 0 9).toNat 0 M0 _ _ (by omega) (mEx_iff mEx_rf (fun a b t d => ⟨fun z => z.elim, fun ⟨i, i0, i1, i2⟩ => by omega⟩) rfl)
  · exact hS.elim
