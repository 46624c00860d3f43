/-! LoopLane: reckon, fetch, store, pick -/
set_option maxRecDepth 100000
theorem rA_ki {x a q : Int} {g : jx_S} (h : rSh x g) (a0 : 0 ≤ a ∧ a < 16) (q0 : 0 ≤ q ∧ q < 7) {p : Int} (hp : p = x + 61 + 21 * a + 3 * q) : xk g p 0 := by
  have sh := h.2.2 a q a0.1 a0.2 q0.1 q0.2
  rw [← hp] at sh
  have x0 := h.1
  exact ⟨⟨by omega, by omega⟩, sh.2, by omega⟩
/-- memory with an act begun and its operands taken -/
def xu_ops (M : jx_M) (p n i di j dj : Int) : jx_M := xu_take (xu_take (xu_begin M p n) p 0 i di) p 1 j dj
def o3 (a b c : Int) : Int → Int := fun i => if i = 0 then a else if i = 1 then b else c
theorem add_fin {x p q s v : Int} {S S1 : jx_M} {g : jx_S} {M Mt : jx_M} {o d : Int → Int} {Po : jx_Po} (hR : rR x S g M) (hB : mB S) (hS1 : aS S S1 q s v o d) (hM1 : aM x p q s v o d M (xu_add Mt x p)) (hm : S 0 9 < 16) (hq : 0 ≤ q ∧ q ≤ 6) (hp : p = x + 61 + 21 * S 0 9 + 3 * q) (hB1 : mB S1) (hK : rK x g M Po 0 (S 0 9) (mu_changes S1 0)) :
    0 ≤ p ∧ (xk g p 0 ∧ 0 ≤ x ∧ (0 ≤ S 0 9 ∧ S 0 9 < 16)) ∧ ∃ S', (rBd x S' g (xu_add Mt x p) ∧ mB S') ∧ ∀ M', rCh x S' (xu_add Mt x p) M' → Po (0, 0, S 0 9) g M' := by
  have x0 := hR.1.1
  have h9 := hB.1
  refine ⟨by omega, ⟨rA_ki hR.1 ⟨h9.1, hm⟩ ⟨hq.1, by omega⟩ hp, x0, h9.1, hm⟩, S1, ⟨rBd_aS hR.1 hR.2.1 hS1 hM1 ⟨h9.1, hm⟩ hq hp, hB1⟩, fun M' k1 => ?_⟩
  have fin := rR_aS hR hS1 hM1 ⟨h9.1, hm⟩ hq hp k1
  exact hK _ _ fin.1 fin.2
theorem aM_2 {x p q s v i di j dj : Int} {M : jx_M} (p61 : x + 61 ≤ p) (hn : mm_nop q = 2) (hq : q ≠ 0 ∧ q ≠ 4 ∧ q ≠ 5) : aM x p q s v (o3 i j (-1)) (o3 di dj (-1)) M (xu_add (xu_ops M p 2 i di j dj) x p) := by
  refine aM_of p61 (fun z k hz => ?_) ⟨?_, ?_, ?_, ?_, ?_⟩ (fun a a0 a1 => ?_) (fun c => by omega) (fun w => by omega)
  · unfold xu_ops xu_take xu_begin; simp (disch := omega) only [jx_u_a]
  · unfold xu_ops xu_take xu_begin; simp (disch := omega) only [jx_u_a, jx_u_j, jx_u_eq]
  · unfold xu_ops xu_take xu_begin; simp (disch := omega) only [jx_u_a, jx_u_j, jx_u_eq]
  · unfold xu_ops xu_take xu_begin; simp (disch := omega) only [jx_u_a, jx_u_j, jx_u_eq]
  · unfold xu_ops xu_take xu_begin; simp (disch := omega) only [jx_u_a, jx_u_j, jx_u_eq]
  · unfold xu_ops xu_take xu_begin; simp (disch := omega) only [jx_u_a, jx_u_j, jx_u_eq]; exact hn.symm
  · rw [hn] at a1
    rcases (show a = 0 ∨ a = 1 by omega) with rfl | rfl
    · constructor <;> (unfold xu_ops xu_take xu_begin; simp (disch := omega) only [jx_u_a, jx_u_j, jx_u_eq]; rfl)
    · constructor <;> (unfold xu_ops xu_take xu_begin; simp (disch := omega) only [jx_u_a, jx_u_j, jx_u_eq]; rfl)
def js_X0_reckon : jx_Sp := fun as g M Po => match as with
  | [(60, _, x), (0, _, w), (0, _, i), (0, _, di), (0, _, j), (0, _, dj)] => ∃ S, (rR x S g M ∧ mW S ∧ (jx_r w ∧ jx_r i ∧ jx_r di ∧ jx_r j ∧ jx_r dj)) ∧ rK x g M Po 0 (f_reckon w i di j dj S).1 (f_reckon w i di j dj S).2
  | _ => False
def cs_X0_reckon : jx_Cs := [(1135, 3, 0, 0, js_X0_isIn), (789, 3, 0, 0, js_X0_need), (1203, 2, 0, 0, js_X0_needBack), (1212, 3, 0, 0, js_X0_needAct), (1224, 2, 0, 0, js_X0_reckoning), (1236, 2, 0, 0, ja_beginA), (1239, 4, 0, 0, ja_takeA), (1185, 2, 0, 0, ja_added), (1161, 2, 0, 0, js_X0_refuse)]
theorem hc_X0_reckon {D : jx_D} {l : Launch} : jx_CsOK D l "LoopLane" 6 cs_X0_reckon := List.forall_mem_cons.mpr ⟨jc_X0_378 (jt_X0_isIn l) (fun as g M Po (h : js_X0_isIn as g M Po) => by unfold js_X0_isIn at h; split at h <;> first | exact h.elim | exact rfl) (by decide), List.forall_mem_cons.mpr ⟨jc_X0_263 (jt_X0_need l) (fun as g M Po (h : js_X0_need as g M Po) => by unfold js_X0_need at h; split at h <;> first | exact h.elim | exact ⟨_, _, _, rfl, rfl⟩) (by decide), List.forall_mem_cons.mpr ⟨jc_X0_401 (jt_X0_needBack l) (fun as g M Po (h : js_X0_needBack as g M Po) => by unfold js_X0_needBack at h; split at h <;> first | exact h.elim | exact ⟨_, _, _, rfl, rfl⟩) (by decide), List.forall_mem_cons.mpr ⟨jc_X0_404 (jt_X0_needAct l) (fun as g M Po (h : js_X0_needAct as g M Po) => by unfold js_X0_needAct at h; split at h <;> first | exact h.elim | exact ⟨_, _, _, rfl, rfl⟩) (by decide), List.forall_mem_cons.mpr ⟨jc_X0_408 (jt_X0_reckoning l) (fun as g M Po (h : js_X0_reckoning as g M Po) => by unfold js_X0_reckoning at h; split at h <;> first | exact h.elim | exact ⟨_, _, _, rfl, rfl⟩) (by decide), List.forall_mem_cons.mpr ⟨jz_beginA (by decide), List.forall_mem_cons.mpr ⟨jz_takeA (by decide), List.forall_mem_cons.mpr ⟨jz_added (by decide), List.forall_mem_cons.mpr ⟨jc_X0_387 (jt_X0_refuse l) (fun as g M Po (h : js_X0_refuse as g M Po) => by unfold js_X0_refuse at h; split at h <;> first | exact h.elim | exact ⟨_, _, _, rfl, rfl⟩) (by decide), fun _ h => absurd h List.not_mem_nil⟩⟩⟩⟩⟩⟩⟩⟩⟩
abbrev th_X0_reckon : List (Nat × Nat × Nat × Nat) := [(0, 97, 98, 315)]
theorem jh_X0_reckon : jx_hf th_X0_reckon 7 1 = none ∧ jx_hf th_X0_reckon 7 2 = none ∧ jx_hf th_X0_reckon 7 3 = none ∧ jx_hf th_X0_reckon 7 4 = none ∧ jx_hf th_X0_reckon 7 5 = none ∧ jx_hf th_X0_reckon 7 6 = some 98 ∧ jx_hf th_X0_reckon 12 1 = none ∧ jx_hf th_X0_reckon 12 2 = none ∧ jx_hf th_X0_reckon 12 3 = none ∧ jx_hf th_X0_reckon 12 4 = none ∧ jx_hf th_X0_reckon 12 5 = none ∧ jx_hf th_X0_reckon 12 6 = some 98 ∧ jx_hf th_X0_reckon 17 1 = none ∧ jx_hf th_X0_reckon 17 2 = none ∧ jx_hf th_X0_reckon 17 3 = none ∧ jx_hf th_X0_reckon 17 4 = none ∧ jx_hf th_X0_reckon 17 5 = none ∧ jx_hf th_X0_reckon 17 6 = some 98 ∧ jx_hf th_X0_reckon 23 1 = none ∧ jx_hf th_X0_reckon 23 2 = none ∧ jx_hf th_X0_reckon 23 3 = none ∧ jx_hf th_X0_reckon 23 4 = none ∧ jx_hf th_X0_reckon 23 5 = none ∧ jx_hf th_X0_reckon 23 6 = some 98 ∧ jx_hf th_X0_reckon 29 1 = none ∧ jx_hf th_X0_reckon 29 2 = none ∧ jx_hf th_X0_reckon 29 3 = none ∧ jx_hf th_X0_reckon 29 4 = none ∧ jx_hf th_X0_reckon 29 5 = none ∧ jx_hf th_X0_reckon 29 6 = some 98 ∧ jx_hf th_X0_reckon 37 1 = none ∧ jx_hf th_X0_reckon 37 2 = none ∧ jx_hf th_X0_reckon 37 3 = none ∧ jx_hf th_X0_reckon 37 4 = none ∧ jx_hf th_X0_reckon 37 5 = none ∧ jx_hf th_X0_reckon 37 6 = some 98 ∧ jx_hf th_X0_reckon 57 1 = none ∧ jx_hf th_X0_reckon 57 2 = none ∧ jx_hf th_X0_reckon 57 3 = none ∧ jx_hf th_X0_reckon 57 4 = none ∧ jx_hf th_X0_reckon 57 5 = none ∧ jx_hf th_X0_reckon 57 6 = some 98 ∧ jx_hf th_X0_reckon 62 1 = none ∧ jx_hf th_X0_reckon 62 2 = none ∧ jx_hf th_X0_reckon 62 3 = none ∧ jx_hf th_X0_reckon 62 4 = none ∧ jx_hf th_X0_reckon 62 5 = none ∧ jx_hf th_X0_reckon 62 6 = some 98 ∧ jx_hf th_X0_reckon 70 1 = none ∧ jx_hf th_X0_reckon 70 2 = none ∧ jx_hf th_X0_reckon 70 3 = none ∧ jx_hf th_X0_reckon 70 4 = none ∧ jx_hf th_X0_reckon 70 5 = none ∧ jx_hf th_X0_reckon 70 6 = some 98 ∧ jx_hf th_X0_reckon 78 1 = none ∧ jx_hf th_X0_reckon 78 2 = none ∧ jx_hf th_X0_reckon 78 3 = none ∧ jx_hf th_X0_reckon 78 4 = none ∧ jx_hf th_X0_reckon 78 5 = none ∧ jx_hf th_X0_reckon 78 6 = some 98 ∧ jx_hf th_X0_reckon 88 1 = none ∧ jx_hf th_X0_reckon 88 2 = none ∧ jx_hf th_X0_reckon 88 3 = none ∧ jx_hf th_X0_reckon 88 4 = none ∧ jx_hf th_X0_reckon 88 5 = none ∧ jx_hf th_X0_reckon 88 6 = some 98 ∧ jx_hf th_X0_reckon 94 1 = none ∧ jx_hf th_X0_reckon 94 2 = none ∧ jx_hf th_X0_reckon 94 3 = none ∧ jx_hf th_X0_reckon 94 4 = none ∧ jx_hf th_X0_reckon 94 5 = none ∧ jx_hf th_X0_reckon 94 6 = some 98 ∧ jx_hf th_X0_reckon 106 1 = none ∧ jx_hf th_X0_reckon 106 2 = none ∧ jx_hf th_X0_reckon 106 3 = none ∧ jx_hf th_X0_reckon 106 4 = none ∧ jx_hf th_X0_reckon 106 5 = none ∧ jx_hf th_X0_reckon 106 6 = none := by refine ⟨?_, ?_, ?_, ?_, ?_, ?_, ?_, ?_, ?_, ?_, ?_, ?_, ?_, ?_, ?_, ?_, ?_, ?_, ?_, ?_, ?_, ?_, ?_, ?_, ?_, ?_, ?_, ?_, ?_, ?_, ?_, ?_, ?_, ?_, ?_, ?_, ?_, ?_, ?_, ?_, ?_, ?_, ?_, ?_, ?_, ?_, ?_, ?_, ?_, ?_, ?_, ?_, ?_, ?_, ?_, ?_, ?_, ?_, ?_, ?_, ?_, ?_, ?_, ?_, ?_, ?_, ?_, ?_, ?_, ?_, ?_, ?_, ?_, ?_, ?_, ?_, ?_, ?_⟩ <;> rfl
theorem jk_X0_reckon : ∀ q ∈ th_X0_reckon, jx_ct q.2.2.2 := by unfold th_X0_reckon; simp [jx_ct]
set_option maxHeartbeats 4000000 in
theorem jt_X0_reckon (l : Launch) : jx_Ct l yX0_reckon (wsW_ yX0_reckon cX0_reckon 7 (some .int) th_X0_reckon) 6 0 0 js_X0_reckon := by
  refine jx_Ct_w (rc := 0) (by decide) rfl (fun D as g M Po hS => ?_)
  unfold js_X0_reckon at hS
  split at hS
  · rename_i n1 x n2 w n3 i n4 di n5 j n6 dj
    obtain ⟨S, ⟨hR, hW, rw_, ri, rdi, rj, rdj⟩, hK⟩ := hS
    have hB := hW.1
    have h9 := hB.1
    have x0 := hR.1.1
    have r5 := hR.2.1.1
    unfold f_reckon at hK
    simp only [rK_ite, mno] at hK
    refine ⟨Nat.le_of_ble_eq_true rfl, ?_⟩
    have at98 : ∀ (z k : Int) (P6 : jx_A), 1 ≤ k → k ≤ 11 → z = x + 49 + k → rK x g M Po 0 (-k) (mu_no S 0 (-k)) → jx_V D l (yX0_reckon.cls, cX0_reckon, 7, 0, th_X0_reckon, 6, 0, 0, yX0_reckon.name) Po 98 [(60, n1, x), (0, n2, w), (0, n3, i), (0, n4, di), (0, n5, j), (0, n6, dj), P6] [(64, 0, z)] (0, 0) g M := by
      intro z k P6 k1 k2 hz hk
      have e6 := hR.2.2.2.2.2.1.2.2.2.2 k k1 k2
      rw [← hz] at e6
      refine jx_runL (o := jo_X0) (cs := cs_X0_reckon) (hf := jx_hf th_X0_reckon) jo_X0_ok hc_X0_reckon (jx_HK_LL rfl jk_X0_reckon) (fun _ => false) 20 ?_
      simp only [jw, ju, jx_tg, Int.cast_ofNat_Int, Int.reduceAdd, Int.reduceToNat, Nat.reduceAdd, Nat.reduceMul, Nat.reduceBEq, Nat.reduceLeDiff, Int.reduceLE, Int.reduceLT, Int.reduceEq, Int.reduceNeg, Int.reduceSub, Int.reduceMul, not_false_eq_true, true_and, and_true, and_self, Bool.or_false, Bool.false_or, Bool.or_true, Bool.true_or, List.length_nil, List.length_cons, Nat.zero_le, or_true, true_or, Nat.le_refl, ↓reduceIte, Nat.reduceEqDiff, forall_const, false_and, and_false, false_implies, implies_true, not_true_eq_false, or_false, false_or, ne_eq, jd_X0_reckon, jf_X0, e6, ja_added, ja_beginA, ja_takeA, js_X0_isIn, js_X0_need, js_X0_needAct, js_X0_needBack, js_X0_reckoning, js_X0_refuse, cs_X0_reckon, jx_ck_c, jh_X0_reckon, jx_ex]
      exact ⟨by omega, rK_no h9.2 (by omega) hR rFr_rf hk⟩
    have go60 : (1 ≤ w ∧ w ≤ 3) → (0 ≤ di ∧ di ≤ 4) → (0 ≤ dj ∧ dj ≤ 4) → mm_okop (S 0 9) i di → mm_okop (S 0 9) j dj → ¬ 16 ≤ S 0 9 → jx_V D l (yX0_reckon.cls, cX0_reckon, 7, 0, th_X0_reckon, 6, 0, 0, yX0_reckon.name) Po 60 [(60, n1, x), (0, n2, w), (0, n3, i), (0, n4, di), (0, n5, j), (0, n6, dj), (5, 0, 0)] [] (0, 0) g (M) := by
      intro c1 c2 c3 c4 c5 c6
      obtain ⟨p, hp⟩ : ∃ p, p = x + 61 + 21 * S 0 9 + 3 * w := ⟨_, rfl⟩
      have ki := rA_ki hR.1 ⟨h9.1, by omega⟩ (show 0 ≤ w ∧ w < 7 by omega) hp
      have p61 : x + 61 ≤ p := by omega
      have e5 : xu_ops M p 2 i di j dj x 5 = S 0 9 := by unfold xu_ops xu_take xu_begin; simp (disch := omega) only [jx_u_a]; exact r5
      have nop : mm_nop w = 2 := by rcases (show w = 1 ∨ w = 2 ∨ w = 3 by omega) with rfl | rfl | rfl <;> rfl
      refine jx_runL (o := jo_X0) (cs := cs_X0_reckon) (hf := jx_hf th_X0_reckon) jo_X0_ok hc_X0_reckon (jx_HK_LL rfl jk_X0_reckon) (fun p => p == 91) 60 ?_
      simp only [jw, ju, jx_tg, Int.cast_ofNat_Int, Int.reduceAdd, Int.reduceToNat, Nat.reduceAdd, Nat.reduceMul, Nat.reduceBEq, Nat.reduceLeDiff, Int.reduceLE, Int.reduceLT, Int.reduceEq, Int.reduceNeg, Int.reduceSub, Int.reduceMul, not_false_eq_true, true_and, and_true, and_self, Bool.or_false, Bool.false_or, Bool.or_true, Bool.true_or, List.length_nil, List.length_cons, Nat.zero_le, or_true, true_or, Nat.le_refl, ↓reduceIte, Nat.reduceEqDiff, forall_const, false_and, and_false, false_implies, implies_true, not_true_eq_false, or_false, false_or, ne_eq, jd_X0_reckon, jf_X0, r5, ← hp, ja_added, ja_beginA, ja_takeA, js_X0_isIn, js_X0_need, js_X0_needAct, js_X0_needBack, js_X0_reckoning, js_X0_refuse, cs_X0_reckon, jx_ck_c, jh_X0_reckon, jx_ex]
      refine ⟨⟨c1, by omega, hR.1⟩, ki, ki, ki, ?_⟩
      refine jx_runL (o := jo_X0) (cs := cs_X0_reckon) (hf := jx_hf th_X0_reckon) jo_X0_ok hc_X0_reckon (jx_HK_LL rfl jk_X0_reckon) (fun _ => false) 30 ?_
      simp only [jw, ju, jx_tg, Int.cast_ofNat_Int, Int.reduceAdd, Int.reduceToNat, Nat.reduceAdd, Nat.reduceMul, Nat.reduceBEq, Nat.reduceLeDiff, Int.reduceLE, Int.reduceLT, Int.reduceEq, Int.reduceNeg, Int.reduceSub, Int.reduceMul, not_false_eq_true, true_and, and_true, and_self, Bool.or_false, Bool.false_or, Bool.or_true, Bool.true_or, List.length_nil, List.length_cons, Nat.zero_le, or_true, true_or, Nat.le_refl, ↓reduceIte, Nat.reduceEqDiff, forall_const, false_and, and_false, false_implies, implies_true, not_true_eq_false, or_false, false_or, ne_eq, jd_X0_reckon, jf_X0, js_X0_added, show xu_take (xu_take (xu_begin M p 2) p 0 i di) p 1 j dj x 5 = S 0 9 from e5, ja_added, ja_beginA, ja_takeA, js_X0_isIn, js_X0_need, js_X0_needAct, js_X0_needBack, js_X0_reckoning, js_X0_refuse, cs_X0_reckon, jx_ck_c, jh_X0_reckon, jx_ex]
      have hS1 := aS_add1 (S := S) (w := w) (s := -1) (x := i) (dx := di) (z := j) (dz := dj) (u := -1) (du := -1) (v := 0) (o := o3 i j (-1)) (d := o3 di dj (-1)) h9.1 rfl rfl rfl rfl rfl rfl
      have hK2 := ((hK.1 ⟨c1, c2, c3⟩).1 ⟨c4, c5⟩).2 (by omega)
      rw [mu_adds_1] at hK2
      refine add_fin hR hB hS1 (aM_2 p61 nop (by omega)) (by omega) (by omega) hp (mB_aS hB hS1 (by omega) (by omega) (by decide) (by omega) (fun a a0 a1 => ⟨fun q1 => ?_, fun q1 => ?_⟩)) hK2
      · rw [nop] at q1
        rcases (show a = 0 ∨ a = 1 by omega) with rfl | rfl
        · exact ⟨c4.1, c2, c4.2⟩
        · exact ⟨c5.1, c3, c5.2⟩
      · rw [nop] at q1
        rw [show a = 2 by omega]
        exact ⟨rfl, rfl⟩
    have noK9 : ¬ ((1 ≤ w ∧ w ≤ 3) ∧ (0 ≤ di ∧ di ≤ 4) ∧ (0 ≤ dj ∧ dj ≤ 4)) → rK x g M Po 0 (-9) (mu_no S 0 (-9)) := hK.2
    have r9 : jx_r (S 0 9) := ⟨by omega, by omega⟩
    refine jx_runL (o := jo_X0) (cs := cs_X0_reckon) (hf := jx_hf th_X0_reckon) jo_X0_ok hc_X0_reckon (jx_HK_LL rfl jk_X0_reckon) (fun p => p == 60 || p == 98) 60 ?_
    simp only [jw, ju, jx_tg, Int.cast_ofNat_Int, Int.reduceAdd, Int.reduceToNat, Nat.reduceAdd, Nat.reduceMul, Nat.reduceBEq, Nat.reduceLeDiff, Int.reduceLE, Int.reduceLT, Int.reduceEq, Int.reduceNeg, Int.reduceSub, Int.reduceMul, not_false_eq_true, true_and, and_true, and_self, Bool.or_false, Bool.false_or, Bool.or_true, Bool.true_or, List.length_nil, List.length_cons, Nat.zero_le, or_true, true_or, Nat.le_refl, ↓reduceIte, Nat.reduceEqDiff, forall_const, false_and, and_false, false_implies, implies_true, not_true_eq_false, or_false, false_or, ne_eq, jd_X0_reckon, jf_X0, r5, ja_added, ja_beginA, ja_takeA, js_X0_isIn, js_X0_need, js_X0_needAct, js_X0_needBack, js_X0_reckoning, js_X0_refuse, cs_X0_reckon, jx_ck_c, jh_X0_reckon, jx_ex]
    refine ⟨rw_, fun c1 => ⟨by decide, rdi, fun c2 => ⟨rdj, fun c3 => ⟨⟨ri, rdi, r9⟩, fun c4 => ⟨⟨rj, rdj, r9⟩, fun c5 => ⟨r9, fun c6 => ⟨by decide, ?_⟩, fun c6 => ⟨by decide, go60 c1 c2 c3 ⟨c4.1, by omega⟩ ⟨c5.1, by omega⟩ c6⟩⟩, fun c5 => ?_⟩, fun c4 => ?_⟩, fun c3 => ?_⟩, fun c2 => ?_⟩, fun c1 => ⟨by decide, ?_⟩⟩
    · exact at98 _ 10 _ (by decide) (by decide) (by omega) (((hK.1 ⟨c1, c2, c3⟩).1 ⟨⟨c4.1, by omega⟩, c5.1, by omega⟩).1 (by omega))
    · exact at98 _ 3 _ (by decide) (by decide) (by omega) ((hK.1 ⟨c1, c2, c3⟩).2 (fun z => c5 ⟨z.2.1, by have := z.2.2; omega⟩))
    · exact at98 _ 3 _ (by decide) (by decide) (by omega) ((hK.1 ⟨c1, c2, c3⟩).2 (fun z => c4 ⟨z.1.1, by have := z.1.2; omega⟩))
    · exact at98 _ 9 _ (by decide) (by decide) (by omega) (hK.2 (fun z => c3 z.2.2))
    · exact at98 _ 9 _ (by decide) (by decide) (by omega) (hK.2 (fun z => c2 z.2.1))
    · exact at98 _ 9 _ (by decide) (by decide) (by omega) (hK.2 (fun z => c1 z.1))
  · exact hS.elim
