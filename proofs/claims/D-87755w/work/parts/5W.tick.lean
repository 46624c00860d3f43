/-! LoopLane: earliest, latest, tick -/
set_option maxRecDepth 100000
def xW_r (n x : Int) (M : jx_M) : Prop := ∀ u v, xf_in n u v → -1000000 ≤ xW n x M u v ∧ xW n x M u v ≤ 7864320
theorem mm_top_r {W : Int → Int → Int} {v B : Int} (hB : 0 ≤ B) : ∀ k : Nat, (∀ u : Int, 0 ≤ u → u < k → W u v ≤ B) → 0 ≤ mm_top W v k ∧ mm_top W v k ≤ B
  | 0, _ => ⟨Int.le_refl _, hB⟩
  | k + 1, h => by
    have ih := mm_top_r (W := W) (v := v) hB k (fun u a b => h u a (by omega))
    have := h k (by omega) (by omega)
    unfold mm_top
    omega
def js_X0_earliest : jx_Sp := fun as g M Po => match as with
  | [(60, _, x), (0, _, a)] => ((0 ≤ M x 5 ∧ M x 5 ≤ 16) ∧ (0 ≤ a ∧ a < M x 5) ∧ xW_r (M x 5) x M) ∧ Po (0, 0, mm_top (xW (M x 5) x M) a (M x 5).toNat) g M
  | _ => False
def cs_X0_earliest : jx_Cs := [(319, 2, 0, 0, js_J10_max)]
theorem hc_X0_earliest {D : jx_D} {l : Launch} : jx_CsOK D l "LoopLane" 1 cs_X0_earliest := List.forall_mem_cons.mpr ⟨jx_CS_max q910, fun _ h => absurd h List.not_mem_nil⟩
set_option maxHeartbeats 4000000 in
theorem jt_X0_earliest (l : Launch) : jx_Ct l yX0_earliest (ws_ yX0_earliest cX0_earliest 4 (some .int)) 1 0 0 js_X0_earliest := by
  refine jx_Ct_c (rc := 0) (by decide) rfl (fun D as g M Po hS => ?_)
  unfold js_X0_earliest at hS
  split at hS
  · rename_i n1 x n2 a
    obtain ⟨⟨h9, ha, hr⟩, hP⟩ := hS
    refine ⟨Nat.le_of_ble_eq_true rfl, ?_⟩
    have loop : ∀ (f k : Nat), (k : Int) + f = M x 5 → jx_V D l (yX0_earliest.cls, cX0_earliest, 4, 0, [], 1, 0, 0, yX0_earliest.name) Po 4 [(60, n1, x), (0, n2, a), (0, 0, mm_top (xW (M x 5) x M) a k), (0, 0, (k : Int))] [] (0, 0) g (M) := by
      intro f
      induction f with
      | zero =>
        intro k hk
        rw [show (M x 5).toNat = k by omega] at hP
        refine jx_runL (o := jo_X0) (cs := cs_X0_earliest) (hf := jx_nh) jo_X0_ok hc_X0_earliest (jx_HK_nil rfl) (fun p => p == 12) 20 ?_
        simp only [jw, ju, jx_tg, Int.cast_ofNat_Int, Int.reduceAdd, Int.reduceToNat, Nat.reduceAdd, Nat.reduceMul, Nat.reduceBEq, Nat.reduceLeDiff, Int.reduceLE, Int.reduceLT, Int.reduceEq, Int.reduceNeg, Int.reduceSub, Int.reduceMul, not_false_eq_true, true_and, and_true, and_self, Bool.or_false, Bool.false_or, Bool.or_true, Bool.true_or, List.length_nil, List.length_cons, Nat.zero_le, or_true, true_or, Nat.le_refl, ↓reduceIte, Nat.reduceEqDiff, forall_const, false_and, and_false, false_implies, implies_true, not_true_eq_false, or_false, false_or, ne_eq, jd_X0_earliest, jf_X0, js_J10_max, cs_X0_earliest, jx_ck_c]
        exact ⟨by omega, fun c => hP, fun c => by omega⟩
      | succ f ih =>
        intro k hk
        have q : xf_in (M x 5) k a := ⟨⟨by omega, by omega⟩, ha⟩
        have ix := xf_ix h9.2 q
        have rk := hr k a q
        have tr := mm_top_r (W := xW (M x 5) x M) (v := a) (B := 7864320) (by decide) k (fun u u0 u1 => (hr u a ⟨⟨u0, by omega⟩, ha⟩).2)
        have nx := ih (k + 1) (by omega)
        rw [show mm_top (xW (M x 5) x M) a (k + 1) = max (mm_top (xW (M x 5) x M) a k) (M (x + 36) (M x 5 * k + a)) from rfl, show (((k + 1 : Nat) : Int)) = (k : Int) + 1 by omega] at nx
        have ew : xW (M x 5) x M k a = M (x + 36) (M x 5 * k + a) := rfl
        rw [ew] at rk
        refine jx_runL (o := jo_X0) (cs := cs_X0_earliest) (hf := jx_nh) jo_X0_ok hc_X0_earliest (jx_HK_nil rfl) (fun p => p == 4 || p == 36) 40 ?_
        simp only [jw, ju, jx_tg, Int.cast_ofNat_Int, Int.reduceAdd, Int.reduceToNat, Nat.reduceAdd, Nat.reduceMul, Nat.reduceBEq, Nat.reduceLeDiff, Int.reduceLE, Int.reduceLT, Int.reduceEq, Int.reduceNeg, Int.reduceSub, Int.reduceMul, not_false_eq_true, true_and, and_true, and_self, Bool.or_false, Bool.false_or, Bool.or_true, Bool.true_or, List.length_nil, List.length_cons, Nat.zero_le, or_true, true_or, Nat.le_refl, ↓reduceIte, Nat.reduceEqDiff, forall_const, false_and, and_false, false_implies, implies_true, not_true_eq_false, or_false, false_or, ne_eq, jd_X0_earliest, jf_X0, js_J10_max, cs_X0_earliest, jx_ck_c]
        exact ⟨by omega, fun c => by omega, fun c => ⟨by omega, ⟨⟨by omega, by omega⟩, by omega, by omega⟩, nx⟩⟩
    refine jx_runL (o := jo_X0) (cs := cs_X0_earliest) (hf := jx_nh) jo_X0_ok hc_X0_earliest (jx_HK_nil rfl) (fun p => p == 4) 20 ?_
    simp only [jw, ju, jx_tg, Int.cast_ofNat_Int, Int.reduceAdd, Int.reduceToNat, Nat.reduceAdd, Nat.reduceMul, Nat.reduceBEq, Nat.reduceLeDiff, Int.reduceLE, Int.reduceLT, Int.reduceEq, Int.reduceNeg, Int.reduceSub, Int.reduceMul, not_false_eq_true, true_and, and_true, and_self, Bool.or_false, Bool.false_or, Bool.or_true, Bool.true_or, List.length_nil, List.length_cons, Nat.zero_le, or_true, true_or, Nat.le_refl, ↓reduceIte, Nat.reduceEqDiff, forall_const, false_and, and_false, false_implies, implies_true, not_true_eq_false, or_false, false_or, ne_eq, jd_X0_earliest, jf_X0, js_J10_max, cs_X0_earliest, jx_ck_c]
    exact loop (M x 5).toNat 0 (by omega)
  · exact hS.elim
def js_X0_latest : jx_Sp := fun as g M Po => match as with
  | [(60, _, x), (0, _, a)] => ((0 ≤ M x 5 ∧ M x 5 ≤ 16) ∧ (0 ≤ a ∧ a < M x 5) ∧ xW_r (M x 5) x M) ∧ Po (0, 0, mm_max (fun v => mm_top (xW (M x 5) x M) v (M x 5).toNat) (M x 5).toNat - mm_top (fun u v => xW (M x 5) x M v u) a (M x 5).toNat) g M
  | _ => False
def cs_X0_latest : jx_Cs := [(1395, 2, 0, 0, js_X0_earliest), (319, 2, 0, 0, js_J10_max), (1405, 2, 0, 0, js_J10_min)]
theorem hc_X0_latest {D : jx_D} {l : Launch} : jx_CsOK D l "LoopLane" 2 cs_X0_latest := List.forall_mem_cons.mpr ⟨jc_X0_465 (jt_X0_earliest l) (fun as g M Po (h : js_X0_earliest as g M Po) => by unfold js_X0_earliest at h; split at h <;> first | exact h.elim | exact ⟨_, _, _, rfl, rfl⟩) (by decide), List.forall_mem_cons.mpr ⟨jx_CS_max q910, List.forall_mem_cons.mpr ⟨jx_CS_min q969, fun _ h => absurd h List.not_mem_nil⟩⟩⟩
set_option maxHeartbeats 4000000 in
theorem jt_X0_latest (l : Launch) : jx_Ct l yX0_latest (ws_ yX0_latest cX0_latest 5 (some .int)) 2 0 0 js_X0_latest := by
  refine jx_Ct_c (rc := 0) (by decide) rfl (fun D as g M Po hS => ?_)
  unfold js_X0_latest at hS
  split at hS
  · rename_i n1 x n2 a
    obtain ⟨⟨h9, ha, hr⟩, hP⟩ := hS
    refine ⟨Nat.le_of_ble_eq_true rfl, ?_⟩
    obtain ⟨W, hW⟩ : ∃ W, W = xW (M x 5) x M := ⟨_, rfl⟩
    have trv : ∀ v, 0 ≤ v → v < M x 5 → 0 ≤ mm_top W v (M x 5).toNat ∧ mm_top W v (M x 5).toNat ≤ 7864320 := fun v v0 v1 => mm_top_r (by decide) _ (fun u u0 u1 => by rw [hW]; exact (hr u v ⟨⟨u0, by omega⟩, v0, v1⟩).2)
    have mx := mm_max_r (fun v => mm_top W v (M x 5).toNat) 7864320 (by decide)
    rw [← hW] at hP
    have loop2 : ∀ (f k : Nat) (E : Int), E = mm_max (fun v => mm_top W v (M x 5).toNat) (M x 5).toNat → (k : Int) + f = M x 5 → jx_V D l (yX0_latest.cls, cX0_latest, 5, 0, [], 2, 0, 0, yX0_latest.name) Po 33 [(60, n1, x), (0, n2, a), (0, 0, E), (0, 0, E - mm_top (fun u v => W v u) a k), (0, 0, (k : Int))] [] (0, 0) g (M) := by
      intro f
      induction f with
      | zero =>
        intro k E hE hk
        rw [← hE, show (M x 5).toNat = k by omega] at hP
        refine jx_runL (o := jo_X0) (cs := cs_X0_latest) (hf := jx_nh) jo_X0_ok hc_X0_latest (jx_HK_nil rfl) (fun p => p == 42) 20 ?_
        simp only [jw, ju, jx_tg, Int.cast_ofNat_Int, Int.reduceAdd, Int.reduceToNat, Nat.reduceAdd, Nat.reduceMul, Nat.reduceBEq, Nat.reduceLeDiff, Int.reduceLE, Int.reduceLT, Int.reduceEq, Int.reduceNeg, Int.reduceSub, Int.reduceMul, not_false_eq_true, true_and, and_true, and_self, Bool.or_false, Bool.false_or, Bool.or_true, Bool.true_or, List.length_nil, List.length_cons, Nat.zero_le, or_true, true_or, Nat.le_refl, ↓reduceIte, Nat.reduceEqDiff, forall_const, false_and, and_false, false_implies, implies_true, not_true_eq_false, or_false, false_or, ne_eq, jd_X0_latest, jf_X0, js_J10_max, js_J10_min, js_X0_earliest, cs_X0_latest, jx_ck_c]
        exact ⟨by omega, fun c => hP, fun c => by omega⟩
      | succ f ih =>
        intro k E hE hk
        have er := mx (M x 5).toNat (fun v v0 v1 => (trv v v0 (by omega)).2)
        rw [← hE] at er
        have q : xf_in (M x 5) a k := ⟨ha, by omega, by omega⟩
        have ix := xf_ix h9.2 q
        have rk := hr a k q
        have tr := mm_top_r (W := fun u v => W v u) (v := a) (B := 7864320) (by decide) k (fun u u0 u1 => by rw [hW]; exact (hr a u ⟨ha, u0, by omega⟩).2)
        have nx := ih (k + 1) E hE (by omega)
        have ew : xW (M x 5) x M a k = M (x + 36) (M x 5 * a + k) := rfl
        rw [show mm_top (fun u v => W v u) a (k + 1) = max (mm_top (fun u v => W v u) a k) (W a k) from rfl, show (((k + 1 : Nat) : Int)) = (k : Int) + 1 by omega, hW, ew, ← hW] at nx
        rw [ew] at rk
        refine jx_runL (o := jo_X0) (cs := cs_X0_latest) (hf := jx_nh) jo_X0_ok hc_X0_latest (jx_HK_nil rfl) (fun p => p == 33 || p == 88) 60 ?_
        simp only [jw, ju, jx_tg, Int.cast_ofNat_Int, Int.reduceAdd, Int.reduceToNat, Nat.reduceAdd, Nat.reduceMul, Nat.reduceBEq, Nat.reduceLeDiff, Int.reduceLE, Int.reduceLT, Int.reduceEq, Int.reduceNeg, Int.reduceSub, Int.reduceMul, not_false_eq_true, true_and, and_true, and_self, Bool.or_false, Bool.false_or, Bool.or_true, Bool.true_or, List.length_nil, List.length_cons, Nat.zero_le, or_true, true_or, Nat.le_refl, ↓reduceIte, Nat.reduceEqDiff, forall_const, false_and, and_false, false_implies, implies_true, not_true_eq_false, or_false, false_or, ne_eq, jd_X0_latest, jf_X0, js_J10_max, js_J10_min, js_X0_earliest, cs_X0_latest, jx_ck_c]
        refine ⟨by omega, fun c => by omega, fun c => ⟨by omega, ⟨by omega, by omega⟩, fun c2 => ?_, fun c2 => ⟨by omega, ⟨⟨by omega, by omega⟩, by omega, by omega⟩, ?_⟩⟩⟩
        · rw [show max (mm_top (fun u v => W v u) a k) (M (x + 36) (M x 5 * a + k)) = mm_top (fun u v => W v u) a k by omega] at nx
          exact nx
        · rw [show E - max (mm_top (fun u v => W v u) a k) (M (x + 36) (M x 5 * a + k)) = min (E - mm_top (fun u v => W v u) a k) (E - M (x + 36) (M x 5 * a + k)) by omega] at nx
          exact nx
    have loop1 : ∀ (f k : Nat) (P4 : jx_A), (k : Int) + f = M x 5 → jx_V D l (yX0_latest.cls, cX0_latest, 5, 0, [], 2, 0, 0, yX0_latest.name) Po 4 [(60, n1, x), (0, n2, a), (0, 0, mm_max (fun v => mm_top W v (M x 5).toNat) k), (0, 0, (k : Int)), P4] [] (0, 0) g (M) := by
      intro f
      induction f with
      | zero =>
        intro k P4 hk
        have l2 := loop2 (M x 5).toNat 0 (mm_max (fun v => mm_top W v (M x 5).toNat) k) (by rw [show (M x 5).toNat = k by omega]) (by omega)
        rw [show mm_max (fun v => mm_top W v (M x 5).toNat) k - mm_top (fun u v => W v u) a 0 = mm_max (fun v => mm_top W v (M x 5).toNat) k from Int.sub_zero _] at l2
        refine jx_runL (o := jo_X0) (cs := cs_X0_latest) (hf := jx_nh) jo_X0_ok hc_X0_latest (jx_HK_nil rfl) (fun p => p == 12 || p == 33) 30 ?_
        simp only [jw, ju, jx_tg, Int.cast_ofNat_Int, Int.reduceAdd, Int.reduceToNat, Nat.reduceAdd, Nat.reduceMul, Nat.reduceBEq, Nat.reduceLeDiff, Int.reduceLE, Int.reduceLT, Int.reduceEq, Int.reduceNeg, Int.reduceSub, Int.reduceMul, not_false_eq_true, true_and, and_true, and_self, Bool.or_false, Bool.false_or, Bool.or_true, Bool.true_or, List.length_nil, List.length_cons, Nat.zero_le, or_true, true_or, Nat.le_refl, ↓reduceIte, Nat.reduceEqDiff, forall_const, false_and, and_false, false_implies, implies_true, not_true_eq_false, or_false, false_or, ne_eq, jd_X0_latest, jf_X0, js_J10_max, js_J10_min, js_X0_earliest, cs_X0_latest, jx_ck_c]
        exact ⟨by omega, fun c => l2, fun c => by omega⟩
      | succ f ih =>
        intro k P4 hk
        have tk := trv k (by omega) (by omega)
        have mk := mx k (fun v v0 v1 => (trv v v0 (by omega)).2)
        have nx := ih (k + 1) P4 (by omega)
        rw [show mm_max (fun v => mm_top W v (M x 5).toNat) (k + 1) = max (mm_max (fun v => mm_top W v (M x 5).toNat) k) (mm_top W k (M x 5).toNat) from rfl, show (((k + 1 : Nat) : Int)) = (k : Int) + 1 by omega] at nx
        refine jx_runL (o := jo_X0) (cs := cs_X0_latest) (hf := jx_nh) jo_X0_ok hc_X0_latest (jx_HK_nil rfl) (fun p => p == 4 || p == 28) 40 ?_
        simp only [jw, ju, jx_tg, Int.cast_ofNat_Int, Int.reduceAdd, Int.reduceToNat, Nat.reduceAdd, Nat.reduceMul, Nat.reduceBEq, Nat.reduceLeDiff, Int.reduceLE, Int.reduceLT, Int.reduceEq, Int.reduceNeg, Int.reduceSub, Int.reduceMul, not_false_eq_true, true_and, and_true, and_self, Bool.or_false, Bool.false_or, Bool.or_true, Bool.true_or, List.length_nil, List.length_cons, Nat.zero_le, or_true, true_or, Nat.le_refl, ↓reduceIte, Nat.reduceEqDiff, forall_const, false_and, and_false, false_implies, implies_true, not_true_eq_false, or_false, false_or, ne_eq, jd_X0_latest, jf_X0, ← hW, js_J10_max, js_J10_min, js_X0_earliest, cs_X0_latest, jx_ck_c]
        exact ⟨by omega, fun c => by omega, fun c => ⟨⟨h9, by omega, hr⟩, ⟨⟨by omega, by omega⟩, by omega, by omega⟩, nx⟩⟩
    refine jx_runL (o := jo_X0) (cs := cs_X0_latest) (hf := jx_nh) jo_X0_ok hc_X0_latest (jx_HK_nil rfl) (fun p => p == 4) 20 ?_
    simp only [jw, ju, jx_tg, Int.cast_ofNat_Int, Int.reduceAdd, Int.reduceToNat, Nat.reduceAdd, Nat.reduceMul, Nat.reduceBEq, Nat.reduceLeDiff, Int.reduceLE, Int.reduceLT, Int.reduceEq, Int.reduceNeg, Int.reduceSub, Int.reduceMul, not_false_eq_true, true_and, and_true, and_self, Bool.or_false, Bool.false_or, Bool.or_true, Bool.true_or, List.length_nil, List.length_cons, Nat.zero_le, or_true, true_or, Nat.le_refl, ↓reduceIte, Nat.reduceEqDiff, forall_const, false_and, and_false, false_implies, implies_true, not_true_eq_false, or_false, false_or, ne_eq, jd_X0_latest, jf_X0, js_J10_max, js_J10_min, js_X0_earliest, cs_X0_latest, jx_ck_c]
    exact loop1 (M x 5).toNat 0 _ (by omega)
  · exact hS.elim
theorem xf_wt_0 {b : Int} {T : Int → Int} : xf_wt b 0 T = mm_wt b := if_pos rfl
theorem xf_rev_wt {n : Nat} {E : mm_E} {b : Int} {W : Int → Int → Int} (hE : ∀ a b t d, E a b t d → 0 ≤ a ∧ 0 ≤ b) (h : xf_I n n E (mm_wt b) W) (hex : ∃ f, mm_SolE n E (mm_wt b) f) : mm_LeastE n (mm_rev E) (mm_wt b) (fun v => mm_top (fun u v => W v u) v n) := xf_rev hE h hex
theorem xf_pw {n W : Int} (h9 : 0 ≤ n ∧ n ≤ 16) (h : W ≤ 120 * 2 ^ n.toNat) : W ≤ 7864320 := by
  have p1 : (2 : Int) ^ n.toNat ≤ 2 ^ 16 := by
    have h1 : n.toNat ≤ 16 := by omega
    have h2 := Nat.pow_le_pow_right (show 0 < 2 by decide) h1
    exact_mod_cast h2
  have p2 : (2 : Int) ^ 16 = 65536 := by decide
  rw [p2] at p1
  generalize (2 : Int) ^ n.toNat = z at h p1
  omega
theorem tick_fw {x a : Int} {S : jx_M} {M' : jx_M} (hB : mB S) (ha : 0 ≤ a ∧ a < S 0 9) (hI : xf_I (S 0 9) (S 0 9) (me_all S) (mm_wt (S 0 27)) (xW (S 0 9) x M')) (rg : mm_Rg S (S 0 27)) : xW_r (S 0 9) x M' ∧ (∀ v, 0 ≤ v → v < S 0 9 → mm_early S v = mm_top (xW (S 0 9) x M') v (S 0 9).toNat) ∧ mm_lag S a = mm_top (fun u v => xW (S 0 9) x M' v u) a (S 0 9).toNat := by
  have h9 := hB.1
  have n9 : ((S 0 9).toNat : Int) = S 0 9 := by omega
  have hE0 : ∀ a b t d, me_all S a b t d → 0 ≤ a ∧ 0 ≤ b := fun a b t d h => ⟨(xf_E_all hB a b t d h).1.1, (xf_E_all hB a b t d h).2.1.1⟩
  refine ⟨fun u v q => ⟨(hI.1 u v q).1, xf_pw h9 (hI.1 u v q).2⟩, ?_, ?_⟩
  · have hl := xf_least (n := (S 0 9).toNat) hE0 (by rw [n9]; exact hI)
    rw [n9] at hl
    exact mm_early_eq hl
  · have hl := xf_rev_wt (n := (S 0 9).toNat) hE0 (by rw [n9]; exact hI) (by rw [n9]; exact rg)
    rw [n9] at hl
    exact mm_lag_eq hl a ha.1 ha.2
def js_X0_tick : jx_Sp := fun as g M Po => match as with
  | [(60, _, x), (0, _, a), (0, _, w)] => ∃ S, (rR x S g M ∧ mW S ∧ jx_r a ∧ jx_r w) ∧ rK x g M Po 0 (f_tick a w S).1 (f_tick a w S).2
  | _ => False
def cs_X0_tick : jx_Cs := [(1278, 2, 0, 0, js_X0_isAct), (723, 2, 0, 0, js_X0_begin), (366, 4, 0, 0, js_X0_findWays), (1395, 2, 0, 0, js_X0_earliest), (1413, 2, 0, 0, js_X0_latest), (1161, 2, 0, 0, js_X0_refuse)]
theorem hc_X0_tick {D : jx_D} {l : Launch} : jx_CsOK D l "LoopLane" 5 cs_X0_tick := List.forall_mem_cons.mpr ⟨jc_X0_426 (jt_X0_isAct l) (fun as g M Po (h : js_X0_isAct as g M Po) => by unfold js_X0_isAct at h; split at h <;> first | exact h.elim | exact ⟨_, _, _, rfl, rfl⟩) (by decide), List.forall_mem_cons.mpr ⟨jc_X0_241 (jt_X0_begin l) (fun as g M Po (h : js_X0_begin as g M Po) => by unfold js_X0_begin at h; split at h <;> first | exact h.elim | exact ⟨_, _, _, rfl, rfl⟩) (by decide), List.forall_mem_cons.mpr ⟨jc_X0_122 (jt_X0_findWays l) (fun as g M Po (h : js_X0_findWays as g M Po) => by unfold js_X0_findWays at h; split at h <;> first | exact h.elim | exact ⟨_, _, _, rfl, rfl⟩) (by decide), List.forall_mem_cons.mpr ⟨jc_X0_465 (jt_X0_earliest l) (fun as g M Po (h : js_X0_earliest as g M Po) => by unfold js_X0_earliest at h; split at h <;> first | exact h.elim | exact ⟨_, _, _, rfl, rfl⟩) (by decide), List.forall_mem_cons.mpr ⟨jc_X0_471 (jt_X0_latest l) (fun as g M Po (h : js_X0_latest as g M Po) => by unfold js_X0_latest at h; split at h <;> first | exact h.elim | exact ⟨_, _, _, rfl, rfl⟩) (by decide), List.forall_mem_cons.mpr ⟨jc_X0_387 (jt_X0_refuse l) (fun as g M Po (h : js_X0_refuse as g M Po) => by unfold js_X0_refuse at h; split at h <;> first | exact h.elim | exact ⟨_, _, _, rfl, rfl⟩) (by decide), fun _ h => absurd h List.not_mem_nil⟩⟩⟩⟩⟩⟩
set_option maxHeartbeats 4000000 in
theorem jt_X0_tick (l : Launch) : jx_Ct l yX0_tick (ws_ yX0_tick cX0_tick 4 (some .int)) 5 0 0 js_X0_tick := by
  refine jx_Ct_c (rc := 0) (by decide) rfl (fun D as g M Po hS => ?_)
  unfold js_X0_tick at hS
  split at hS
  · rename_i n1 x n2 a n3 w
    obtain ⟨S, ⟨hR, hW, ra, r2⟩, hK⟩ := hS
    have hB := hW.1
    have h9 := hB.1
    have x0 := hR.1.1
    have r5 := hR.2.1.1
    have l1 := hR.2.2.2.1.1
    have hb := hW.2.1
    unfold f_tick mm_isa at hK
    simp only [rK_ite, mno] at hK
    refine ⟨Nat.le_of_ble_eq_true rfl, ?_⟩
    by_cases c0 : S 0 27 = 0
    · rw [if_pos c0] at l1
      refine jx_runL (o := jo_X0) (cs := cs_X0_tick) (hf := jx_nh) jo_X0_ok hc_X0_tick (jx_HK_nil rfl) (fun p => p == 14) 20 ?_
      simp only [jw, ju, jx_tg, Int.cast_ofNat_Int, Int.reduceAdd, Int.reduceToNat, Nat.reduceAdd, Nat.reduceMul, Nat.reduceBEq, Nat.reduceLeDiff, Int.reduceLE, Int.reduceLT, Int.reduceEq, Int.reduceNeg, Int.reduceSub, Int.reduceMul, not_false_eq_true, true_and, and_true, and_self, Bool.or_false, Bool.false_or, Bool.or_true, Bool.true_or, List.length_nil, List.length_cons, Nat.zero_le, or_true, true_or, Nat.le_refl, ↓reduceIte, Nat.reduceEqDiff, forall_const, false_and, and_false, false_implies, implies_true, not_true_eq_false, or_false, false_or, ne_eq, jd_X0_tick, jf_X0, l1, js_X0_begin, js_X0_earliest, js_X0_findWays, js_X0_isAct, js_X0_latest, js_X0_refuse, cs_X0_tick, jx_ck_c]
      exact rK_no h9.2 (by decide) hR rFr_rf (hK.1 c0)
    · rw [if_neg c0] at l1
      have hK2 := hK.2 c0
      have l2 := hR.2.2.2.1.2 c0
      have hb1 : 1 ≤ S 0 27 ∧ S 0 27 ≤ 60 := by omega
      have hfw : ((0 ≤ S 0 9 ∧ S 0 9 ≤ 16) ∧ (1 ≤ S 0 27 ∧ S 0 27 ≤ 60) ∧ (0 ≤ M x 23 ∧ M x 23 ≤ 900) ∧ mm_EO (me_all S) (M (x + 26)) (M (x + 27)) (M (x + 28)) (M (x + 29)) (M x 23) ∧ xf_E (me_all S)) := ⟨h9, hb1, rEd_23 hB hR.2.2.1, hR.2.2.1.2.2, xf_E_all hB⟩
      refine jx_runL (o := jo_X0) (cs := cs_X0_tick) (hf := jx_nh) jo_X0_ok hc_X0_tick (jx_HK_nil rfl) (fun p => p == 7 || p == 30) 60 ?_
      simp only [jw, ju, jx_tg, Int.cast_ofNat_Int, Int.reduceAdd, Int.reduceToNat, Nat.reduceAdd, Nat.reduceMul, Nat.reduceBEq, Nat.reduceLeDiff, Int.reduceLE, Int.reduceLT, Int.reduceEq, Int.reduceNeg, Int.reduceSub, Int.reduceMul, not_false_eq_true, true_and, and_true, and_self, Bool.or_false, Bool.false_or, Bool.or_true, Bool.true_or, List.length_nil, List.length_cons, Nat.zero_le, or_true, true_or, Nat.le_refl, ↓reduceIte, Nat.reduceEqDiff, forall_const, false_and, and_false, false_implies, implies_true, not_true_eq_false, or_false, false_or, ne_eq, jd_X0_tick, jf_X0, l1, r5, js_X0_begin, js_X0_earliest, js_X0_findWays, js_X0_isAct, js_X0_latest, js_X0_refuse, cs_X0_tick, jx_ck_c]
      refine ⟨⟨ra, by omega⟩, fun c => ?_, fun c => rK_no h9.2 (by decide) hR rFr_rf (hK2.2 c)⟩
      have hK3 := hK2.1 c
      have l3 := l2.2 a c.1 c.2
      have eb := rLd_b hR.2.2.2.1 hW c0 c.1 c.2
      have rg : mm_Rg S (S 0 27) := ⟨S 26, fun v v0 v1 => (mW_26 hW c0 v0 v1).1, fun p q t d he _ _ => by have := (hW.2.2.1 c0).2.2 p q t d he; unfold mm_wt; omega⟩
      by_cases cw : 0 ≤ w ∧ w ≤ 4
      · have hK4 := hK3.1 cw
        rcases (show w = 0 ∨ w = 1 ∨ w = 2 ∨ w = 3 ∨ w = 4 by omega) with rfl | rfl | rfl | rfl | rfl
        · refine jx_s_tsI (dflt := 87) (lo := 0) (hi := 4) (offs := #[34, 41, 48, 54, 54]) (len := 34) (off := 34) (tgt := 64) (by decide +kernel) r2 (by decide) (by decide) rfl rfl ?_
          refine jx_runL (o := jo_X0) (cs := cs_X0_tick) (hf := jx_nh) jo_X0_ok hc_X0_tick (jx_HK_nil rfl) (fun _ => false) 20 ?_
          simp only [jw, ju, jx_tg, Int.cast_ofNat_Int, Int.reduceAdd, Int.reduceToNat, Nat.reduceAdd, Nat.reduceMul, Nat.reduceBEq, Nat.reduceLeDiff, Int.reduceLE, Int.reduceLT, Int.reduceEq, Int.reduceNeg, Int.reduceSub, Int.reduceMul, not_false_eq_true, true_and, and_true, and_self, Bool.or_false, Bool.false_or, Bool.or_true, Bool.true_or, List.length_nil, List.length_cons, Nat.zero_le, or_true, true_or, Nat.le_refl, ↓reduceIte, Nat.reduceEqDiff, forall_const, false_and, and_false, false_implies, implies_true, not_true_eq_false, or_false, false_or, ne_eq, jd_X0_tick, jf_X0, l3.1, js_X0_begin, js_X0_earliest, js_X0_findWays, js_X0_isAct, js_X0_latest, js_X0_refuse, cs_X0_tick, jx_ck_c]
          exact ⟨by omega, rK_s hR (((hK4.2 (by decide)).2 (by decide)).1 rfl)⟩
        · refine jx_s_tsI (dflt := 87) (lo := 0) (hi := 4) (offs := #[34, 41, 48, 54, 54]) (len := 34) (off := 41) (tgt := 71) (by decide +kernel) r2 (by decide) (by decide) rfl rfl ?_
          refine jx_runL (o := jo_X0) (cs := cs_X0_tick) (hf := jx_nh) jo_X0_ok hc_X0_tick (jx_HK_nil rfl) (fun _ => false) 20 ?_
          simp only [jw, ju, jx_tg, Int.cast_ofNat_Int, Int.reduceAdd, Int.reduceToNat, Nat.reduceAdd, Nat.reduceMul, Nat.reduceBEq, Nat.reduceLeDiff, Int.reduceLE, Int.reduceLT, Int.reduceEq, Int.reduceNeg, Int.reduceSub, Int.reduceMul, not_false_eq_true, true_and, and_true, and_self, Bool.or_false, Bool.false_or, Bool.or_true, Bool.true_or, List.length_nil, List.length_cons, Nat.zero_le, or_true, true_or, Nat.le_refl, ↓reduceIte, Nat.reduceEqDiff, forall_const, false_and, and_false, false_implies, implies_true, not_true_eq_false, or_false, false_or, ne_eq, jd_X0_tick, jf_X0, l3.2.1, js_X0_begin, js_X0_earliest, js_X0_findWays, js_X0_isAct, js_X0_latest, js_X0_refuse, cs_X0_tick, jx_ck_c]
          exact ⟨by omega, rK_s hR ((((hK4.2 (by decide)).2 (by decide)).2 (by decide)).1 rfl)⟩
        · refine jx_s_tsI (dflt := 87) (lo := 0) (hi := 4) (offs := #[34, 41, 48, 54, 54]) (len := 34) (off := 48) (tgt := 78) (by decide +kernel) r2 (by decide) (by decide) rfl rfl ?_
          refine jx_runL (o := jo_X0) (cs := cs_X0_tick) (hf := jx_nh) jo_X0_ok hc_X0_tick (jx_HK_nil rfl) (fun _ => false) 20 ?_
          simp only [jw, ju, jx_tg, Int.cast_ofNat_Int, Int.reduceAdd, Int.reduceToNat, Nat.reduceAdd, Nat.reduceMul, Nat.reduceBEq, Nat.reduceLeDiff, Int.reduceLE, Int.reduceLT, Int.reduceEq, Int.reduceNeg, Int.reduceSub, Int.reduceMul, not_false_eq_true, true_and, and_true, and_self, Bool.or_false, Bool.false_or, Bool.or_true, Bool.true_or, List.length_nil, List.length_cons, Nat.zero_le, or_true, true_or, Nat.le_refl, ↓reduceIte, Nat.reduceEqDiff, forall_const, false_and, and_false, false_implies, implies_true, not_true_eq_false, or_false, false_or, ne_eq, jd_X0_tick, jf_X0, eb, js_X0_begin, js_X0_earliest, js_X0_findWays, js_X0_isAct, js_X0_latest, js_X0_refuse, cs_X0_tick, jx_ck_c]
          exact ⟨by omega, rK_s hR ((((hK4.2 (by decide)).2 (by decide)).2 (by decide)).2 (by decide))⟩
        · refine jx_s_tsI (dflt := 87) (lo := 0) (hi := 4) (offs := #[34, 41, 48, 54, 54]) (len := 34) (off := 54) (tgt := 84) (by decide +kernel) r2 (by decide) (by decide) rfl rfl ?_
          refine jx_runL (o := jo_X0) (cs := cs_X0_tick) (hf := jx_nh) jo_X0_ok hc_X0_tick (jx_HK_nil rfl) (fun p => p == 98) 30 ?_
          simp only [jw, ju, jx_tg, Int.cast_ofNat_Int, Int.reduceAdd, Int.reduceToNat, Nat.reduceAdd, Nat.reduceMul, Nat.reduceBEq, Nat.reduceLeDiff, Int.reduceLE, Int.reduceLT, Int.reduceEq, Int.reduceNeg, Int.reduceSub, Int.reduceMul, not_false_eq_true, true_and, and_true, and_self, Bool.or_false, Bool.false_or, Bool.or_true, Bool.true_or, List.length_nil, List.length_cons, Nat.zero_le, or_true, true_or, Nat.le_refl, ↓reduceIte, Nat.reduceEqDiff, forall_const, false_and, and_false, false_implies, implies_true, not_true_eq_false, or_false, false_or, ne_eq, jd_X0_tick, jf_X0, r5, l2.1, js_X0_begin, js_X0_earliest, js_X0_findWays, js_X0_isAct, js_X0_latest, js_X0_refuse, cs_X0_tick, jx_ck_c]
          refine ⟨me_all S, hfw, fun r M' k1 hr => ?_⟩
          rw [xf_wt_0] at hr
          obtain ⟨w1, w2, w3⟩ : xW_r (S 0 9) x M' ∧ (∀ v, 0 ≤ v → v < S 0 9 → mm_early S v = mm_top (xW (S 0 9) x M') v (S 0 9).toNat) ∧ mm_lag S a = mm_top (fun u v => xW (S 0 9) x M' v u) a (S 0 9).toNat := hr.elim (fun z => tick_fw hB c z.2 rg) (fun z => absurd rg z.2)
          have e5 : M' x 5 = S 0 9 := by rw [k1 _ _ (by omega)]; exact r5
          refine jx_runL (o := jo_X0) (cs := cs_X0_tick) (hf := jx_nh) jo_X0_ok hc_X0_tick (jx_HK_nil rfl) (fun _ => false) 30 ?_
          simp only [jw, ju, jx_tg, Int.cast_ofNat_Int, Int.reduceAdd, Int.reduceToNat, Nat.reduceAdd, Nat.reduceMul, Nat.reduceBEq, Nat.reduceLeDiff, Int.reduceLE, Int.reduceLT, Int.reduceEq, Int.reduceNeg, Int.reduceSub, Int.reduceMul, not_false_eq_true, true_and, and_true, and_self, Bool.or_false, Bool.false_or, Bool.or_true, Bool.true_or, List.length_nil, List.length_cons, Nat.zero_le, or_true, true_or, Nat.le_refl, ↓reduceIte, Nat.reduceEqDiff, forall_const, false_and, and_false, false_implies, implies_true, not_true_eq_false, or_false, false_or, ne_eq, jd_X0_tick, jf_X0, e5, js_X0_begin, js_X0_earliest, js_X0_findWays, js_X0_isAct, js_X0_latest, js_X0_refuse, cs_X0_tick, jx_ck_c]
          refine ⟨⟨h9, c, w1⟩, ?_⟩
          rw [← w2 a c.1 c.2]
          exact ((hK4.2 (by decide)).1 rfl) _ _ (xF36_R h9.2 k1 hR) (xF36_F k1)
        · refine jx_s_tsI (dflt := 87) (lo := 0) (hi := 4) (offs := #[34, 41, 48, 54, 54]) (len := 34) (off := 54) (tgt := 84) (by decide +kernel) r2 (by decide) (by decide) rfl rfl ?_
          refine jx_runL (o := jo_X0) (cs := cs_X0_tick) (hf := jx_nh) jo_X0_ok hc_X0_tick (jx_HK_nil rfl) (fun p => p == 98) 30 ?_
          simp only [jw, ju, jx_tg, Int.cast_ofNat_Int, Int.reduceAdd, Int.reduceToNat, Nat.reduceAdd, Nat.reduceMul, Nat.reduceBEq, Nat.reduceLeDiff, Int.reduceLE, Int.reduceLT, Int.reduceEq, Int.reduceNeg, Int.reduceSub, Int.reduceMul, not_false_eq_true, true_and, and_true, and_self, Bool.or_false, Bool.false_or, Bool.or_true, Bool.true_or, List.length_nil, List.length_cons, Nat.zero_le, or_true, true_or, Nat.le_refl, ↓reduceIte, Nat.reduceEqDiff, forall_const, false_and, and_false, false_implies, implies_true, not_true_eq_false, or_false, false_or, ne_eq, jd_X0_tick, jf_X0, r5, l2.1, js_X0_begin, js_X0_earliest, js_X0_findWays, js_X0_isAct, js_X0_latest, js_X0_refuse, cs_X0_tick, jx_ck_c]
          refine ⟨me_all S, hfw, fun r M' k1 hr => ?_⟩
          rw [xf_wt_0] at hr
          obtain ⟨w1, w2, w3⟩ : xW_r (S 0 9) x M' ∧ (∀ v, 0 ≤ v → v < S 0 9 → mm_early S v = mm_top (xW (S 0 9) x M') v (S 0 9).toNat) ∧ mm_lag S a = mm_top (fun u v => xW (S 0 9) x M' v u) a (S 0 9).toNat := hr.elim (fun z => tick_fw hB c z.2 rg) (fun z => absurd rg z.2)
          have e5 : M' x 5 = S 0 9 := by rw [k1 _ _ (by omega)]; exact r5
          have ml : mm_max (fun v => mm_top (xW (S 0 9) x M') v (S 0 9).toNat) (S 0 9).toNat = mm_last S := (mm_max_congr _ (fun v v0 v1 => w2 v v0 (by omega))).symm
          refine jx_runL (o := jo_X0) (cs := cs_X0_tick) (hf := jx_nh) jo_X0_ok hc_X0_tick (jx_HK_nil rfl) (fun _ => false) 30 ?_
          simp only [jw, ju, jx_tg, Int.cast_ofNat_Int, Int.reduceAdd, Int.reduceToNat, Nat.reduceAdd, Nat.reduceMul, Nat.reduceBEq, Nat.reduceLeDiff, Int.reduceLE, Int.reduceLT, Int.reduceEq, Int.reduceNeg, Int.reduceSub, Int.reduceMul, not_false_eq_true, true_and, and_true, and_self, Bool.or_false, Bool.false_or, Bool.or_true, Bool.true_or, List.length_nil, List.length_cons, Nat.zero_le, or_true, true_or, Nat.le_refl, ↓reduceIte, Nat.reduceEqDiff, forall_const, false_and, and_false, false_implies, implies_true, not_true_eq_false, or_false, false_or, ne_eq, jd_X0_tick, jf_X0, e5, js_X0_begin, js_X0_earliest, js_X0_findWays, js_X0_isAct, js_X0_latest, js_X0_refuse, cs_X0_tick, jx_ck_c]
          refine ⟨⟨h9, c, w1⟩, ?_⟩
          rw [ml, ← w3]
          exact (hK4.1 rfl) _ _ (xF36_R h9.2 k1 hR) (xF36_F k1)
      · refine jx_s_tsO (dflt := 87) (lo := 0) (hi := 4) (offs := #[34, 41, 48, 54, 54]) (len := 34) (tgt := 117) (by decide +kernel) r2 (by omega) rfl ?_
        refine jx_runL (o := jo_X0) (cs := cs_X0_tick) (hf := jx_nh) jo_X0_ok hc_X0_tick (jx_HK_nil rfl) (fun _ => false) 20 ?_
        simp only [jw, ju, jx_tg, Int.cast_ofNat_Int, Int.reduceAdd, Int.reduceToNat, Nat.reduceAdd, Nat.reduceMul, Nat.reduceBEq, Nat.reduceLeDiff, Int.reduceLE, Int.reduceLT, Int.reduceEq, Int.reduceNeg, Int.reduceSub, Int.reduceMul, not_false_eq_true, true_and, and_true, and_self, Bool.or_false, Bool.false_or, Bool.or_true, Bool.true_or, List.length_nil, List.length_cons, Nat.zero_le, or_true, true_or, Nat.le_refl, ↓reduceIte, Nat.reduceEqDiff, forall_const, false_and, and_false, false_implies, implies_true, not_true_eq_false, or_false, false_or, ne_eq, jd_X0_tick, jf_X0, js_X0_begin, js_X0_earliest, js_X0_findWays, js_X0_isAct, js_X0_latest, js_X0_refuse, cs_X0_tick, jx_ck_c]
        exact rK_no h9.2 (by decide) hR rFr_rf (hK3.2 cw)
  · exact hS.elim
