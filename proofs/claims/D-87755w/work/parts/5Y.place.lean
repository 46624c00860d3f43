/-! LoopLane: place -/
set_option maxRecDepth 100000
theorem mm_fl_congr {S : jx_M} {T T' : Int → Int} {n : Nat} {b k t : Int} (h : ∀ v : Int, 0 ≤ v → v < n → T v = T' v) : mm_fl S T n b k t = mm_fl S T' n b k t := mm_sum_eq n (fun v a c => by unfold mm_fb; rw [h v a c])
theorem mm_fl_s {S : jx_M} {T : Int → Int} {n : Nat} {b k t : Int} : mm_fl S T (n + 1) b k t = mm_fl S T n b k t + mm_fb S T b k t n := rfl
theorem mm_fl_r {S : jx_M} {T : Int → Int} {n : Nat} {b k t : Int} : 0 ≤ mm_fl S T n b k t ∧ mm_fl S T n b k t ≤ 8 * n := mm_sum_r _ 8 (by decide) n (fun _ _ _ => mm_fb_r)
/-- one more act fits -/
theorem mm_fits_s {S : jx_M} {T : Int → Int} {n : Nat} {b : Int} (hu : 0 ≤ S 3 n ∧ S 3 n ≤ 5) (h : mm_fits S T n b) : mm_fits S T (n + 1) b ↔ ∀ t, 0 ≤ t → t < b → 0 < mm_f8 (S 4 n) (T n) b t 8 → mm_fl S T (n + 1) b (S 3 n) t ≤ S 10 (S 3 n) := by
  constructor
  · intro hf t t0 t1 _
    exact hf (S 3 n) t hu.1 (by omega) t0 t1
  · intro hf k t k0 k1 t0 t1
    rw [mm_fl_s]
    have old := h k t k0 k1 t0 t1
    by_cases c : S 3 n = k
    · by_cases d : 0 < mm_f8 (S 4 n) (T n) b t 8
      · have := hf t t0 t1 d
        rw [c, mm_fl_s] at this
        exact this
      · have e : mm_fb S T b k t n = 0 := by
          have r := mm_f8_r (S 4 n) (T n) b t 8
          unfold mm_fb
          rw [if_pos c]
          omega
        omega
    · have e : mm_fb S T b k t n = 0 := by unfold mm_fb; rw [if_neg c]
      omega
def ms_lim (b a : Int) : Int := if a = 0 then 1 else b
theorem ms_go_lim {S : jx_M} {b a tr : Int} {T : Int → Int} {f : Nat} (h : T a = ms_lim b a) (ha : a ≠ 0) : ms_go S b (f + 1) a T tr = ms_go S b f (a - 1) (mm_up1 T (a - 1) (T (a - 1) + 1)) tr := by
  unfold ms_lim at h
  rw [ms_go.eq_def]
  dsimp only
  rw [if_pos h, if_neg ha]
theorem ms_go_lim0 {S : jx_M} {b tr : Int} {T : Int → Int} {f : Nat} (h : T 0 = 1) : ms_go S b (f + 1) 0 T tr = (3, tr, T) := by
  rw [ms_go.eq_def]
  dsimp only
  rw [if_pos (by rw [if_pos rfl]; exact h), if_pos rfl]
theorem ms_go_sp {S : jx_M} {b a : Int} {T : Int → Int} {f : Nat} (h : T a ≠ ms_lim b a) : ms_go S b (f + 1) a T 3000 = (4, 3000, T) := by
  unfold ms_lim at h
  rw [ms_go.eq_def]
  dsimp only
  rw [if_neg h, if_pos rfl]
theorem ms_go_no {S : jx_M} {b a tr : Int} {T : Int → Int} {f : Nat} (h : T a ≠ ms_lim b a) (ht : tr ≠ 3000) (hn : ¬ ms_ok S b (a + 1).toNat T) : ms_go S b (f + 1) a T tr = ms_go S b f a (mm_up1 T a (T a + 1)) (tr + 1) := by
  unfold ms_lim at h
  rw [ms_go.eq_def]
  dsimp only
  rw [if_neg h, if_neg ht, if_neg hn]
theorem ms_go_ok {S : jx_M} {b a tr : Int} {T : Int → Int} {f : Nat} (h : T a ≠ ms_lim b a) (ht : tr ≠ 3000) (hn : ms_ok S b (a + 1).toNat T) (hm : a + 1 ≠ S 0 9) : ms_go S b (f + 1) a T tr = ms_go S b f (a + 1) (mm_up1 T (a + 1) 0) (tr + 1) := by
  unfold ms_lim at h
  rw [ms_go.eq_def]
  dsimp only
  rw [if_neg h, if_neg ht, if_pos hn, if_neg hm]
theorem ms_go_end {S : jx_M} {b a tr : Int} {T : Int → Int} {f : Nat} (h : T a ≠ ms_lim b a) (ht : tr ≠ 3000) (hn : ms_ok S b (a + 1).toNat T) (hm : a + 1 = S 0 9) : ms_go S b (f + 1) a T tr = (0, tr + 1, T) := by
  unfold ms_lim at h
  rw [ms_go.eq_def]
  dsimp only
  rw [if_neg h, if_neg ht, if_pos hn, if_pos hm]
def xPf (x : Int) (M M' : jx_M) : Prop := ∀ z k : Int, z ≠ x + 33 → z ≠ x + 35 → z ≠ x + 36 → ¬ (z = x ∧ (k = 34 ∨ k = 35)) → M' z k = M z k
def xPt (x n b : Int) (T : Int → Int) (M : jx_M) : Prop := ∀ v, 0 ≤ v → v < n → M (x + 33) v = T v ∧ 0 ≤ T v ∧ T v < b
def xPl (x b : Int) (S : jx_M) (T : Int → Int) (n : Nat) (M : jx_M) : Prop := ∀ k t, 0 ≤ k → k < 6 → 0 ≤ t → t < 60 → M (x + 35) (60 * k + t) = mm_fl S T n b k t
def js_X0_place (r : Nat) : jx_Sp := fun as g M Po => match as with
  | [(60, _, x), (0, _, a)] => ∃ (S : jx_M) (T : Int → Int), (0 ≤ x ∧ rBd x S g M ∧ rEd x S M ∧ mB S ∧ (0 ≤ a ∧ a ≤ S 0 9 ∧ S 0 9 - a ≤ r) ∧ (1 ≤ M x 30 ∧ M x 30 ≤ 60) ∧ xPt x a (M x 30) T M ∧ xPl x (M x 30) S T a.toNat M ∧ mm_fits S T a.toNat (M x 30) ∧ (0 ≤ M x 34 ∧ M x 34 ≤ 3000) ∧ M x 35 = 0) ∧
     (∀ (M' : jx_M) (T' : Int → Int), xPf x M M' → xPt x (S 0 9) (M x 30) T' M' → (M x 34 ≤ M' x 34 ∧ M' x 34 ≤ 3000) → M' x 35 = 0 → (a = S 0 9 → T' = T ∧ M' x 34 = M x 34) → (a < S 0 9 → ms_ok S (M x 30) (S 0 9).toNat T' ∧ ∃ k : Nat, (k : Int) ≤ 2 * (M' x 34 - M x 34) + 1 ∧ ∀ f, ms_go S (M x 30) (f + k) a (mm_up1 T a 0) (M x 34) = (0, M' x 34, T')) → Po (0, 0, 1) g M') ∧
     (∀ M' : jx_M, a < S 0 9 → xPf x M M' → xPt x a (M x 30) T M' → xPl x (M x 30) S T a.toNat M' → (M x 34 ≤ M' x 34 ∧ M' x 34 ≤ 3000) → ((M' x 35 = 0 ∧ ∃ (k : Nat) (T' : Int → Int), (k : Int) ≤ 2 * (M' x 34 - M x 34) ∧ (∀ v, v < a → T' v = T v) ∧ T' a = ms_lim (M x 30) a ∧ ∀ f, ms_go S (M x 30) (f + k) a (mm_up1 T a 0) (M x 34) = ms_go S (M x 30) f a T' (M' x 34)) ∨ (M' x 35 = 1 ∧ M' x 34 = 3000 ∧ ∃ (k : Nat) (T' : Int → Int), (k : Int) ≤ 2 * (3000 - M x 34) + 1 ∧ ∀ f, ms_go S (M x 30) (f + k) a (mm_up1 T a 0) (M x 34) = (4, 3000, T'))) → Po (0, 0, 0) g M')
  | _ => False
def cs_X0_place (r : Nat) : jx_Cs := [(426, 3, 0, 0, js_X0_fill), (366, 4, 0, 0, js_X0_findWays), (438, 2, 0, 0, js_X0_place r)]
theorem hc_X0_place {r : Nat} {D : jx_D} {l : Launch} (ih : jx_Ct l yX0_place (ws_ yX0_place cX0_place 4 (some .boolean)) (4 + r) 0 0 (js_X0_place r)) : jx_CsOK D l "LoopLane" (4 + (r + 1)) (cs_X0_place r) := List.forall_mem_cons.mpr ⟨jc_X0_142 (jt_X0_fill l) (fun as g M Po (h : js_X0_fill as g M Po) => by unfold js_X0_fill at h; split at h <;> first | exact h.elim | exact ⟨_, _, _, rfl, rfl⟩) (by omega), List.forall_mem_cons.mpr ⟨jc_X0_122 (jt_X0_findWays l) (fun as g M Po (h : js_X0_findWays as g M Po) => by unfold js_X0_findWays at h; split at h <;> first | exact h.elim | exact ⟨_, _, _, rfl, rfl⟩) (by omega), List.forall_mem_cons.mpr ⟨jc_X0_146 ih (fun as g M Po (h : js_X0_place r as g M Po) => by unfold js_X0_place at h; split at h <;> first | exact h.elim | exact ⟨_, _, _, rfl, rfl⟩) (by omega), fun _ h => absurd h List.not_mem_nil⟩⟩⟩
set_option maxHeartbeats 4000000 in
theorem jt_X0_place (l : Launch) : ∀ r : Nat, jx_Ct l yX0_place (ws_ yX0_place cX0_place 4 (some .boolean)) (4 + r) 0 0 (js_X0_place r)
  | 0 => by
    refine jx_Ct_c (rc := 4) (by decide) rfl (fun D as g M Po hS => ?_)
    unfold js_X0_place at hS
    split at hS
    · rename_i n1 x n2 a
      obtain ⟨S, T, ⟨hx, hR, hE, hB, ⟨a0, a1, a2⟩, hb, hT, hL, hf, htr, hsp⟩, hY, hN⟩ := hS
      have ea : a = S 0 9 := by omega
      have h9 := hB.1
      refine ⟨Nat.le_of_ble_eq_true rfl, ?_⟩
      refine jx_runL (o := jo_X0) (cs := []) (hf := jx_nh) jo_X0_ok jx_cs0 (jx_HK_nil rfl) (fun p => p == 10) 20 ?_
      simp only [jw, ju, jx_tg, Int.cast_ofNat_Int, Int.reduceAdd, Int.reduceToNat, Nat.reduceAdd, Nat.reduceMul, Nat.reduceBEq, Nat.reduceLeDiff, Int.reduceLE, Int.reduceLT, Int.reduceEq, Int.reduceNeg, Int.reduceSub, Int.reduceMul, not_false_eq_true, true_and, and_true, and_self, Bool.or_false, Bool.false_or, Bool.or_true, Bool.true_or, List.length_nil, List.length_cons, Nat.zero_le, or_true, true_or, Nat.le_refl, ↓reduceIte, Nat.reduceEqDiff, forall_const, false_and, and_false, false_implies, implies_true, not_true_eq_false, or_false, false_or, ne_eq, jd_X0_place, jf_X0, hR.1]
      refine ⟨by omega, fun c => absurd ea c, fun c => hY M T (fun _ _ _ _ _ _ => rfl) (by rw [← ea]; exact hT) (by omega) hsp (fun _ => ⟨rfl, rfl⟩) (fun z => by omega)⟩
    · exact hS.elim
  | r + 1 => by
    have ihr := jt_X0_place l r
    refine jx_Ct_c (rc := 4) (by decide) rfl (fun D as g M Po hS => ?_)
    unfold js_X0_place at hS
    split at hS
    · rename_i n1 x n2 a
      obtain ⟨S, T, ⟨hx, hR, hE, hB, ⟨a0, a1, a2⟩, hb, hT, hL, hf, htr, hsp⟩, hY, hN⟩ := hS
      have h9 := hB.1
      have hc := hc_X0_place (D := D) ihr
      refine ⟨Nat.le_of_ble_eq_true rfl, ?_⟩
      obtain ⟨b, hbb⟩ : ∃ b, b = M x 30 := ⟨_, rfl⟩
      obtain ⟨t0, ht0⟩ : ∃ q, q = M x 34 := ⟨_, rfl⟩
      rw [← hbb] at hb hT hL hf hY hN
      rw [← ht0] at htr hY hN
      by_cases ea : a = S 0 9
      · refine jx_runL (o := jo_X0) (cs := (cs_X0_place r)) (hf := jx_nh) jo_X0_ok hc (jx_HK_nil rfl) (fun p => p == 10) 20 ?_
        simp only [jw, ju, jx_tg, Int.cast_ofNat_Int, Int.reduceAdd, Int.reduceToNat, Nat.reduceAdd, Nat.reduceMul, Nat.reduceBEq, Nat.reduceLeDiff, Int.reduceLE, Int.reduceLT, Int.reduceEq, Int.reduceNeg, Int.reduceSub, Int.reduceMul, not_false_eq_true, true_and, and_true, and_self, Bool.or_false, Bool.false_or, Bool.or_true, Bool.true_or, List.length_nil, List.length_cons, Nat.zero_le, or_true, true_or, Nat.le_refl, ↓reduceIte, Nat.reduceEqDiff, forall_const, false_and, and_false, false_implies, implies_true, not_true_eq_false, or_false, false_or, ne_eq, jd_X0_place, jf_X0, hR.1, cs_X0_place, jx_ck_c]
        refine ⟨by omega, fun c => absurd ea c, fun c => hY M T (fun _ _ _ _ _ _ => rfl) (by rw [← ea]; exact hT) (by rw [← ht0]; omega) hsp (fun _ => ⟨rfl, ht0.symm⟩) (fun z => by omega)⟩
      have an : ((a.toNat : Nat) : Int) = a := by omega
      have a1n : (a + 1).toNat = a.toNat + 1 := by omega
      have wa := hB.2.2.1 a a0 (by omega)
      have hE0 : ∀ x y t d, me_all S x y t d → 0 ≤ x ∧ 0 ≤ y := fun p q t d h => ⟨(xf_E_all hB p q t d h).1.1, (xf_E_all hB p q t d h).2.1.1⟩
      -- parts that stay
      have st : ∀ M', xPf x M M' → rBd x S g M' ∧ rEd x S M' ∧ M' x 30 = b ∧ M' x 5 = S 0 9 := fun M' h => ⟨rBd_c h9.2 hR (fun z k w => h z k (by unfold qBd at w; omega) (by unfold qBd at w; omega) (by unfold qBd at w; omega) (by unfold qBd at w; omega)), rEd_c hE (fun z k w => h z k (by unfold qEd at w; omega) (by unfold qEd at w; omega) (by unfold qEd at w; omega) (by unfold qEd at w; omega)), by rw [h _ _ (by omega) (by omega) (by omega) (by omega), hbb], by rw [h _ _ (by omega) (by omega) (by omega) (by omega)]; exact hR.1⟩
      have loop : ∀ (q : Nat) (t : Int) (M' : jx_M) (T2 : Int → Int) (k : Nat) (P3 : jx_A), t + q = ms_lim b a → 0 ≤ t → xPf x M M' → xPt x a b T M' → xPl x b S T a.toNat M' → (t0 ≤ M' x 34 ∧ M' x 34 ≤ 3000) → M' x 35 = 0 → (k : Int) ≤ 2 * (M' x 34 - t0) → (∀ v, v < a → T2 v = T v) → T2 a = t → (∀ f, ms_go S b (f + k) a (mm_up1 T a 0) t0 = ms_go S b f a T2 (M' x 34)) → jx_V D l (yX0_place.cls, cX0_place, 4, 4, [], 4 + (r + 1), 0, 0, yX0_place.name) Po 12 [(60, n1, x), (0, n2, a), (0, 0, t), P3] [] (0, 0) g (M') := by
        intro q
        induction q with
        | zero =>
          intro t M' T2 k P3 hq ht p1 p2 p3 p4 p5 k1 k2 k3 k4
          obtain ⟨s1, s2, s3, s4⟩ := st M' p1
          have fin := hN M' (by omega) p1 p2 p3 p4 (.inl ⟨p5, k, T2, k1, k2, by rw [k3]; omega, k4⟩)
          unfold ms_lim at hq
          refine jx_runL (o := jo_X0) (cs := (cs_X0_place r)) (hf := jx_nh) jo_X0_ok hc (jx_HK_nil rfl) (fun p => p == 28) 20 ?_
          simp only [jw, ju, jx_tg, Int.cast_ofNat_Int, Int.reduceAdd, Int.reduceToNat, Nat.reduceAdd, Nat.reduceMul, Nat.reduceBEq, Nat.reduceLeDiff, Int.reduceLE, Int.reduceLT, Int.reduceEq, Int.reduceNeg, Int.reduceSub, Int.reduceMul, not_false_eq_true, true_and, and_true, and_self, Bool.or_false, Bool.false_or, Bool.or_true, Bool.true_or, List.length_nil, List.length_cons, Nat.zero_le, or_true, true_or, Nat.le_refl, ↓reduceIte, Nat.reduceEqDiff, forall_const, false_and, and_false, false_implies, implies_true, not_true_eq_false, or_false, false_or, ne_eq, jd_X0_place, jf_X0, s3, js_X0_fill, js_X0_findWays, js_X0_place, cs_X0_place, jx_ck_c]
          by_cases c0 : a = 0
          · rw [if_pos c0] at hq
            exact ⟨by omega, fun c => absurd c0 c, fun c => ⟨by omega, fun c2 => fin, fun c2 => by omega⟩⟩
          · rw [if_neg c0] at hq
            exact ⟨by omega, fun c => ⟨by omega, fun c2 => fin, fun c2 => by omega⟩, fun c => absurd c0 (by omega)⟩
        | succ q iq =>
          intro t M' T2 k P3 hq ht p1 p2 p3 p4 p5 k1 k2 k3 k4
          obtain ⟨s1, s2, s3, s4⟩ := st M' p1
          have tl : T2 a ≠ ms_lim b a := by rw [k3]; omega
          have tb : t < b := by unfold ms_lim at hq; split at hq <;> omega
          have t12 : ∀ v : Int, 0 ≤ v → v < (a.toNat : Int) → T2 v = T v := fun v v0 v1 => k2 v (by omega)
          have fT2 : mm_fits S T2 a.toNat b := mm_fits_congr (fun v v0 v1 => (t12 v v0 v1).symm) hf
          -- the act's units are free again
          have at100 : ∀ (M3 : jx_M) (P3 : jx_A), xPf x M M3 → xPt x a b T M3 → M3 (x + 33) a = t → xPl x b S T2 (a.toNat + 1) M3 → (t0 ≤ M3 x 34 ∧ M3 x 34 ≤ 3000) → ((M3 x 35 = 0 ∧ ∃ (k3 : Nat) (T3 : Int → Int), (k3 : Int) ≤ 2 * (M3 x 34 - t0) ∧ (∀ v, v < a → T3 v = T v) ∧ T3 a = t + 1 ∧ ∀ f, ms_go S b (f + k3) a (mm_up1 T a 0) t0 = ms_go S b f a T3 (M3 x 34)) ∨ (M3 x 35 = 1 ∧ M3 x 34 = 3000 ∧ ∃ (k3 : Nat) (T3 : Int → Int), (k3 : Int) ≤ 2 * (3000 - t0) + 1 ∧ ∀ f, ms_go S b (f + k3) a (mm_up1 T a 0) t0 = (4, 3000, T3))) → jx_V D l (yX0_place.cls, cX0_place, 4, 4, [], 4 + (r + 1), 0, 0, yX0_place.name) Po 100 [(60, n1, x), (0, n2, a), (0, 0, t), P3] [] (0, 0) g (M3) := by
            intro M3 P3 j1 j2 j3 j4 j5 j6
            obtain ⟨u1, u2, u3, u4⟩ := st M3 j1
            refine jx_runL (o := jo_X0) (cs := (cs_X0_place r)) (hf := jx_nh) jo_X0_ok hc (jx_HK_nil rfl) (fun p => p == 107) 30 ?_
            simp only [jw, ju, jx_tg, Int.cast_ofNat_Int, Int.reduceAdd, Int.reduceToNat, Nat.reduceAdd, Nat.reduceMul, Nat.reduceBEq, Nat.reduceLeDiff, Int.reduceLE, Int.reduceLT, Int.reduceEq, Int.reduceNeg, Int.reduceSub, Int.reduceMul, not_false_eq_true, true_and, and_true, and_self, Bool.or_false, Bool.false_or, Bool.or_true, Bool.true_or, List.length_nil, List.length_cons, Nat.zero_le, or_true, true_or, Nat.le_refl, ↓reduceIte, Nat.reduceEqDiff, forall_const, false_and, and_false, false_implies, implies_true, not_true_eq_false, or_false, false_or, ne_eq, jd_X0_place, jf_X0, js_X0_fill, cs_X0_place, jx_ck_c]
            refine ⟨S, ⟨hx, u1, hB, ⟨a0, by omega⟩, by rw [u3]; exact hb, by rw [u3, j3]; exact ⟨ht, tb⟩, fun j q0 q1 => ?_⟩, fun r4 M4 f1 f2 f3 => ?_⟩
            · have := j4 (j / 60) (j % 60) (by omega) (by omega) (by omega) (by omega)
              rw [show 60 * (j / 60) + j % 60 = j by omega] at this
              have rr := mm_fl_r (S := S) (T := T2) (n := a.toNat + 1) (b := b) (k := j / 60) (t := j % 60)
              omega
            have g1 : xPf x M M4 := fun z i q1 q2 q3 q4 => (f1 z i q2).trans (j1 z i q1 q2 q3 q4)
            have g2 : xPt x a b T M4 := fun v v0 v1 => by rw [f1 _ _ (by omega)]; exact j2 v v0 v1
            have e34 : M4 x 34 = M3 x 34 := f1 _ _ (by omega)
            have e35 : M4 x 35 = M3 x 35 := f1 _ _ (by omega)
            have g3 : xPl x b S T a.toNat M4 := fun kk tt q0 q1 q2 q3 => by
              have e1 := f2 kk tt q0 q1 q2 q3
              rw [j4 kk tt q0 q1 q2 q3, mm_fl_s, u3, an] at e1
              have e2 : mm_fb S (M3 (x + 33)) b kk tt a = mm_fb S T2 b kk tt a := by unfold mm_fb; rw [j3, k3]
              rw [e2] at e1
              rw [e1, mm_fl_congr t12]
              omega
            have b01 : 0 ≤ M3 x 35 ∧ M3 x 35 ≤ 1 := by rcases j6 with j6 | j6 <;> omega
            refine jx_runL (o := jo_X0) (cs := (cs_X0_place r)) (hf := jx_nh) jo_X0_ok hc (jx_HK_nil rfl) (fun p => p == 12) 30 ?_
            simp only [jw, ju, jx_tg, Int.cast_ofNat_Int, Int.reduceAdd, Int.reduceToNat, Nat.reduceAdd, Nat.reduceMul, Nat.reduceBEq, Nat.reduceLeDiff, Int.reduceLE, Int.reduceLT, Int.reduceEq, Int.reduceNeg, Int.reduceSub, Int.reduceMul, not_false_eq_true, true_and, and_true, and_self, Bool.or_false, Bool.false_or, Bool.or_true, Bool.true_or, List.length_nil, List.length_cons, Nat.zero_le, or_true, true_or, Nat.le_refl, ↓reduceIte, Nat.reduceEqDiff, forall_const, false_and, and_false, false_implies, implies_true, not_true_eq_false, or_false, false_or, ne_eq, jd_X0_place, jf_X0, e35, cs_X0_place, jx_ck_c]
            refine ⟨by omega, fun c => ?_, fun c => ?_⟩
            · rcases j6 with ⟨j6, k5, T3, z1, z2, z3, z4⟩ | ⟨j6, -⟩
              · exact iq (t + 1) M4 T3 k5 _ (by omega) (by omega) g1 g2 g3 (by rw [e34]; exact j5) (by rw [e35]; exact j6) (by rw [e34]; exact z1) z2 z3 (by rw [e34]; exact z4)
              · omega
            · rcases j6 with ⟨j6, -⟩ | ⟨j6, j7, j8⟩
              · omega
              · exact hN M4 (by omega) g1 g2 g3 (by rw [e34]; exact j5) (.inr ⟨by rw [e35]; exact j6, by rw [e34]; exact j7, j8⟩)
          have at28 : jx_V D l (yX0_place.cls, cX0_place, 4, 4, [], 4 + (r + 1), 0, 0, yX0_place.name) Po 28 [(60, n1, x), (0, n2, a), (0, 0, t), P3] [] (0, 0) g (M') := by
            by_cases c3 : M' x 34 = 3000
            · refine jx_runL (o := jo_X0) (cs := (cs_X0_place r)) (hf := jx_nh) jo_X0_ok hc (jx_HK_nil rfl) (fun p => p == 45) 30 ?_
              simp only [jw, ju, jx_tg, Int.cast_ofNat_Int, Int.reduceAdd, Int.reduceToNat, Nat.reduceAdd, Nat.reduceMul, Nat.reduceBEq, Nat.reduceLeDiff, Int.reduceLE, Int.reduceLT, Int.reduceEq, Int.reduceNeg, Int.reduceSub, Int.reduceMul, not_false_eq_true, true_and, and_true, and_self, Bool.or_false, Bool.false_or, Bool.or_true, Bool.true_or, List.length_nil, List.length_cons, Nat.zero_le, or_true, true_or, Nat.le_refl, ↓reduceIte, Nat.reduceEqDiff, forall_const, false_and, and_false, false_implies, implies_true, not_true_eq_false, or_false, false_or, ne_eq, jd_X0_place, jf_X0, c3, cs_X0_place, jx_ck_c]
              refine hN _ (by omega) (fun z i q1 q2 q3 q4 => ?_) (fun v v0 v1 => ?_) (fun kk tt q0 q1 q2 q3 => ?_) ?_ (.inr ⟨jx_u_eq _ _ _ _, ?_, k + 1, T2, ?_, fun f => ?_⟩)
              · rw [show jx_u M' x 35 1 z i = M' z i from if_neg (by omega)]; exact p1 z i q1 q2 q3 q4
              · rw [jx_u_a _ _ _ _ _ _ (by omega)]; exact p2 v v0 v1
              · rw [jx_u_a _ _ _ _ _ _ (by omega)]; exact p3 kk tt q0 q1 q2 q3
              · rw [jx_u_j _ _ _ _ _ _ (by decide)]; exact p4
              · rw [jx_u_j _ _ _ _ _ _ (by decide)]; exact c3
              · rw [c3] at k1; omega
              · rw [show f + (k + 1) = (f + 1) + k by omega, k4, c3]
                exact ms_go_sp tl
            · obtain ⟨M1, hM1⟩ : ∃ q, q = jx_u (jx_u M' x 34 (M' x 34 + 1)) (x + 33) a t := ⟨_, rfl⟩
              have m1 : ∀ z i, z ≠ x + 33 → ¬ (z = x ∧ i = 34) → M1 z i = M' z i := fun z i h1 h2 => by rw [hM1, jx_u_a _ _ _ _ _ _ h1]; exact if_neg h2
              have m34 : M1 x 34 = M' x 34 + 1 := by rw [hM1, jx_u_a _ _ _ _ _ _ (by omega), jx_u_eq]
              have m33 : M1 (x + 33) a = t := by rw [hM1, jx_u_eq]
              have m33' : ∀ v, v ≠ a → M1 (x + 33) v = M' (x + 33) v := fun v hv => by rw [hM1, jx_u_j _ _ _ _ _ _ hv, jx_u_a _ _ _ _ _ _ (by omega)]
              have o1 : xPf x M M1 := fun z i q1 q2 q3 q4 => by rw [m1 z i q1 (by omega)]; exact p1 z i q1 q2 q3 q4
              obtain ⟨u1, u2, u3, u4⟩ := st M1 o1
              refine jx_runL (o := jo_X0) (cs := (cs_X0_place r)) (hf := jx_nh) jo_X0_ok hc (jx_HK_nil rfl) (fun p => p == 38 || p == 62) 40 ?_
              simp only [jw, ju, jx_tg, Int.cast_ofNat_Int, Int.reduceAdd, Int.reduceToNat, Nat.reduceAdd, Nat.reduceMul, Nat.reduceBEq, Nat.reduceLeDiff, Int.reduceLE, Int.reduceLT, Int.reduceEq, Int.reduceNeg, Int.reduceSub, Int.reduceMul, not_false_eq_true, true_and, and_true, and_self, Bool.or_false, Bool.false_or, Bool.or_true, Bool.true_or, List.length_nil, List.length_cons, Nat.zero_le, or_true, true_or, Nat.le_refl, ↓reduceIte, Nat.reduceEqDiff, forall_const, false_and, and_false, false_implies, implies_true, not_true_eq_false, or_false, false_or, ne_eq, jd_X0_place, jf_X0, cs_X0_place, jx_ck_c]
              refine ⟨by omega, fun c => ⟨by omega, ?_⟩, fun c => by omega⟩
              rw [← hM1]
              refine jx_runL (o := jo_X0) (cs := (cs_X0_place r)) (hf := jx_nh) jo_X0_ok hc (jx_HK_nil rfl) (fun p => p == 69) 40 ?_
              simp only [jw, ju, jx_tg, Int.cast_ofNat_Int, Int.reduceAdd, Int.reduceToNat, Nat.reduceAdd, Nat.reduceMul, Nat.reduceBEq, Nat.reduceLeDiff, Int.reduceLE, Int.reduceLT, Int.reduceEq, Int.reduceNeg, Int.reduceSub, Int.reduceMul, not_false_eq_true, true_and, and_true, and_self, Bool.or_false, Bool.false_or, Bool.or_true, Bool.true_or, List.length_nil, List.length_cons, Nat.zero_le, or_true, true_or, Nat.le_refl, ↓reduceIte, Nat.reduceEqDiff, forall_const, false_and, and_false, false_implies, implies_true, not_true_eq_false, or_false, false_or, ne_eq, jd_X0_place, jf_X0, js_X0_fill, cs_X0_place, jx_ck_c]
              refine ⟨S, ⟨hx, u1, hB, ⟨a0, by omega⟩, by rw [u3]; exact hb, by rw [u3, m33]; exact ⟨ht, tb⟩, fun j q0 q1 => ?_⟩, fun r2 M2 f1 f2 f3 f4 => ?_⟩
              · have := p3 (j / 60) (j % 60) (by omega) (by omega) (by omega) (by omega)
                rw [show 60 * (j / 60) + j % 60 = j by omega] at this
                rw [m1 _ _ (by omega) (by omega)]
                have rr := mm_fl_r (S := S) (T := T) (n := a.toNat) (b := b) (k := j / 60) (t := j % 60)
                omega
              have g1 : xPf x M M2 := fun z i q1 q2 q3 q4 => (f1 z i q2).trans (o1 z i q1 q2 q3 q4)
              have e34 : M2 x 34 = M' x 34 + 1 := by rw [f1 _ _ (by omega)]; exact m34
              have e35 : M2 x 35 = 0 := by rw [f1 _ _ (by omega), m1 _ _ (by omega) (by omega)]; exact p5
              have g33 : M2 (x + 33) a = t := by rw [f1 _ _ (by omega)]; exact m33
              have g2 : xPt x a b T M2 := fun v v0 v1 => by rw [f1 _ _ (by omega), m33' v (by omega)]; exact p2 v v0 v1
              have g3 : xPl x b S T2 (a.toNat + 1) M2 := fun kk tt q0 q1 q2 q3 => by
                have e1 := f2 kk tt q0 q1 q2 q3
                rw [m1 _ _ (by omega) (by omega), p3 kk tt q0 q1 q2 q3, u3, Int.one_mul] at e1
                have e2 : mm_fb S (M1 (x + 33)) b kk tt a = mm_fb S T2 b kk tt a := by unfold mm_fb; rw [m33, k3]
                rw [e1, e2, mm_fl_s, an, mm_fl_congr t12]
              have hfit : r2 = 1 ↔ mm_fits S T2 (a.toNat + 1) b := by
                rw [f4, mm_fits_s (by rw [an]; omega) fT2, an, m33, u3, k3]
                constructor
                · intro h tt q0 q1 q2
                  have := h tt q0 q1 q2
                  rw [g3 (S 3 a) tt (by omega) (by omega) q0 (by omega)] at this
                  exact this
                · intro h tt q0 q1 q2
                  rw [g3 (S 3 a) tt (by omega) (by omega) q0 (by omega)]
                  exact h tt q0 q1 q2
              have gT2 : ∀ v : Int, 0 ≤ v → v < ((a.toNat + 1 : Nat) : Int) → M2 (x + 33) v = T2 v := fun v v0 v1 => by
                rcases (show v < a ∨ v = a by omega) with z | z
                · rw [(g2 v v0 z).1, k2 v z]
                · rw [z, g33, k3]
              have rT2 : ∀ v, 0 ≤ v → v < a + 1 → 0 ≤ M2 (x + 33) v ∧ M2 (x + 33) v < b := fun v v0 v1 => by
                rcases (show v < a ∨ v = a by omega) with z | z
                · rw [(g2 v v0 z).1]; exact (g2 v v0 z).2
                · rw [z, g33]; exact ⟨ht, tb⟩
              -- not so
              have fail : ∀ (M3 : jx_M) (P3 : jx_A), (∀ z i, z ≠ x + 36 → M3 z i = M2 z i) → ¬ ms_ok S b (a + 1).toNat T2 → jx_V D l (yX0_place.cls, cX0_place, 4, 4, [], 4 + (r + 1), 0, 0, yX0_place.name) Po 100 [(60, n1, x), (0, n2, a), (0, 0, t), P3] [] (0, 0) g (M3) := fun M3 P3 h1 h2 => by
                refine at100 M3 P3 (fun z i q1 q2 q3 q4 => (h1 z i q3).trans (g1 z i q1 q2 q3 q4)) (fun v v0 v1 => by rw [h1 _ _ (by omega)]; exact g2 v v0 v1) (by rw [h1 _ _ (by omega)]; exact g33) (fun kk tt q0 q1 q2 q3 => by rw [h1 _ _ (by omega)]; exact g3 kk tt q0 q1 q2 q3) (by rw [h1 _ _ (by omega), e34]; omega) (.inl ⟨by rw [h1 _ _ (by omega)]; exact e35, k + 1, mm_up1 T2 a (T2 a + 1), by rw [h1 _ _ (by omega), e34]; omega, fun v hv => by rw [mm_up1_ne (by omega)]; exact k2 v hv, by rw [mm_up1_eq, k3], fun f => ?_⟩)
                rw [show f + (k + 1) = (f + 1) + k by omega, k4, ms_go_no tl c3 h2, h1 _ _ (by omega), e34]
              obtain ⟨v1, v2, v3, v4⟩ := st M2 g1
              refine jx_runL (o := jo_X0) (cs := (cs_X0_place r)) (hf := jx_nh) jo_X0_ok hc (jx_HK_nil rfl) (fun p => p == 100 || p == 88) 30 ?_
              simp only [jw, ju, jx_tg, Int.cast_ofNat_Int, Int.reduceAdd, Int.reduceToNat, Nat.reduceAdd, Nat.reduceMul, Nat.reduceBEq, Nat.reduceLeDiff, Int.reduceLE, Int.reduceLT, Int.reduceEq, Int.reduceNeg, Int.reduceSub, Int.reduceMul, not_false_eq_true, true_and, and_true, and_self, Bool.or_false, Bool.false_or, Bool.or_true, Bool.true_or, List.length_nil, List.length_cons, Nat.zero_le, or_true, true_or, Nat.le_refl, ↓reduceIte, Nat.reduceEqDiff, forall_const, false_and, and_false, false_implies, implies_true, not_true_eq_false, or_false, false_or, ne_eq, jd_X0_place, jf_X0, v3, js_X0_findWays, cs_X0_place, jx_ck_c]
              refine ⟨by omega, fun c4 => fail M2 _ (fun _ _ _ => rfl) (fun z => ?_), fun c4 => ?_⟩
              · have := hfit.mpr (by rw [← a1n]; exact z.1)
                omega
              refine ⟨me_all S, ⟨by omega, hb, rEd_23 hB v2, v2.2.2, xf_E_all hB, rT2⟩, fun r3 M3 h1 h2 => ?_⟩
              have ews : xf_wt b 1 (M2 (x + 33)) = mm_ws b (M2 (x + 33)) := if_neg (by decide)
              rw [ews] at h2
              have an1 : ((a.toNat + 1 : Nat) : Int) = a + 1 := by omega
              rcases h2 with ⟨rfl, hI⟩ | ⟨rfl, hno⟩
              · refine ⟨by decide, fun z => absurd z (by decide), fun _ => ?_⟩
                have hls := xf_least (n := a.toNat + 1) hE0 (by rw [an1]; exact hI)
                have hok : ms_ok S b (a + 1).toNat T2 := by
                  rw [a1n]
                  exact ⟨hfit.mp (by omega), _, mm_SolE_congr hE0 gT2 hls.1⟩
                have y1 : xPf x M M3 := fun z i q1 q2 q3 q4 => (h1 z i q3).trans (g1 z i q1 q2 q3 q4)
                obtain ⟨w1, w2, w3, w4⟩ := st M3 y1
                have y2 : xPt x (a + 1) b T2 M3 := fun v v0 v1 => by
                  rw [h1 _ _ (by omega)]
                  have e1 := gT2 v v0 (by omega)
                  have e2 := rT2 v v0 v1
                  rw [e1] at e2
                  exact ⟨e1, e2⟩
                have y3 : xPl x b S T2 (a + 1).toNat M3 := fun kk tt q0 q1 q2 q3 => by rw [h1 _ _ (by omega), a1n]; exact g3 kk tt q0 q1 q2 q3
                have y34 : M3 x 34 = M' x 34 + 1 := by rw [h1 _ _ (by omega)]; exact e34
                have y35 : M3 x 35 = 0 := by rw [h1 _ _ (by omega)]; exact e35
                refine jx_runL (o := jo_X0) (cs := (cs_X0_place r)) (hf := jx_nh) jo_X0_ok hc (jx_HK_nil rfl) (fun p => p == 100) 30 ?_
                simp only [jw, ju, jx_tg, Int.cast_ofNat_Int, Int.reduceAdd, Int.reduceToNat, Nat.reduceAdd, Nat.reduceMul, Nat.reduceBEq, Nat.reduceLeDiff, Int.reduceLE, Int.reduceLT, Int.reduceEq, Int.reduceNeg, Int.reduceSub, Int.reduceMul, not_false_eq_true, true_and, and_true, and_self, Bool.or_false, Bool.false_or, Bool.or_true, Bool.true_or, List.length_nil, List.length_cons, Nat.zero_le, or_true, true_or, Nat.le_refl, ↓reduceIte, Nat.reduceEqDiff, forall_const, false_and, and_false, false_implies, implies_true, not_true_eq_false, or_false, false_or, ne_eq, jd_X0_place, jf_X0, js_X0_place, w3, y34, y35, cs_X0_place, jx_ck_c]
                refine ⟨S, T2, ⟨hx, w1, w2, hB, ⟨by omega, by omega, by omega⟩, hb, y2, y3, hok.1, by omega⟩, fun M4 T4 f1 f2 f3 f4 f5 f6 => ?_, fun M4 f0 f1 f2 f3 f4 f5 => ?_⟩
                · have z1 : xPf x M M4 := fun z i q1 q2 q3 q4 => (f1 z i q1 q2 q3 q4).trans (y1 z i q1 q2 q3 q4)
                  refine hY M4 T4 z1 f2 (by omega) f4 (fun z => absurd z ea) (fun _ => ?_)
                  by_cases ce : a + 1 = S 0 9
                  · obtain ⟨e1, e2⟩ := f5 ce
                    rw [e1, e2, ← ce]
                    refine ⟨hok, k + 1, by omega, fun f => ?_⟩
                    rw [show f + (k + 1) = (f + 1) + k by omega, k4]
                    exact ms_go_end tl c3 hok ce
                  · obtain ⟨e1, k6, e2, e3⟩ := f6 (by omega)
                    refine ⟨e1, k + 1 + k6, by omega, fun f => ?_⟩
                    rw [show f + (k + 1 + k6) = ((f + k6) + 1) + k by omega, k4, ms_go_ok tl c3 hok ce]
                    exact e3 f
                · have z1 : xPf x M M4 := fun z i q1 q2 q3 q4 => (f1 z i q1 q2 q3 q4).trans (y1 z i q1 q2 q3 q4)
                  have ce : a + 1 ≠ S 0 9 := by omega
                  refine at100 M4 _ z1 (fun v v0 v1 => ?_) (by rw [(f2 a a0 (by omega)).1]; exact k3) (by rw [← a1n]; exact f3) (by omega) ?_
                  · have := f2 v v0 (by omega)
                    rw [k2 v v1] at this
                    exact this
                  · rcases f5 with ⟨s1, k6, T6, s2, s3, s4, s5⟩ | ⟨s1, s2, k6, T6, s3, s4⟩
                    · refine .inl ⟨s1, k + 1 + k6 + 1, mm_up1 T6 a (T6 a + 1), by omega, fun v hv => ?_, ?_, fun f => ?_⟩
                      · rw [mm_up1_ne (by omega), s3 v (by omega)]; exact k2 v hv
                      · rw [mm_up1_eq, s3 a (by omega), k3]
                      · rw [show f + (k + 1 + k6 + 1) = (((f + 1) + k6) + 1) + k by omega, k4, ms_go_ok tl c3 hok ce, s5 (f + 1), ms_go_lim s4 (by omega), show a + 1 - 1 = a by omega]
                    · refine .inr ⟨s1, s2, k + 1 + k6, T6, by omega, fun f => ?_⟩
                      rw [show f + (k + 1 + k6) = ((f + k6) + 1) + k by omega, k4, ms_go_ok tl c3 hok ce]
                      exact s4 f
              · refine ⟨by decide, fun _ => fail M3 _ h1 (fun z => ?_), fun z => absurd rfl z⟩
                obtain ⟨ff, hff⟩ := z.2
                rw [a1n] at hff
                have := mm_SolE_congr (T' := M2 (x + 33)) hE0 (fun v v0 v1 => (gT2 v v0 v1).symm) hff
                rw [an1] at this
                exact hno ⟨ff, this⟩
          unfold ms_lim at hq
          refine jx_runL (o := jo_X0) (cs := (cs_X0_place r)) (hf := jx_nh) jo_X0_ok hc (jx_HK_nil rfl) (fun p => p == 28) 20 ?_
          simp only [jw, ju, jx_tg, Int.cast_ofNat_Int, Int.reduceAdd, Int.reduceToNat, Nat.reduceAdd, Nat.reduceMul, Nat.reduceBEq, Nat.reduceLeDiff, Int.reduceLE, Int.reduceLT, Int.reduceEq, Int.reduceNeg, Int.reduceSub, Int.reduceMul, not_false_eq_true, true_and, and_true, and_self, Bool.or_false, Bool.false_or, Bool.or_true, Bool.true_or, List.length_nil, List.length_cons, Nat.zero_le, or_true, true_or, Nat.le_refl, ↓reduceIte, Nat.reduceEqDiff, forall_const, false_and, and_false, false_implies, implies_true, not_true_eq_false, or_false, false_or, ne_eq, jd_X0_place, jf_X0, s3, js_X0_fill, js_X0_findWays, js_X0_place, cs_X0_place, jx_ck_c]
          by_cases c0 : a = 0
          · rw [if_pos c0] at hq
            exact ⟨by omega, fun c => absurd c0 c, fun c => ⟨by omega, fun c2 => by omega, fun c2 => at28⟩⟩
          · rw [if_neg c0] at hq
            exact ⟨by omega, fun c => ⟨by omega, fun c2 => by omega, fun c2 => at28⟩, fun c => absurd c0 (by omega)⟩
      refine jx_runL (o := jo_X0) (cs := (cs_X0_place r)) (hf := jx_nh) jo_X0_ok hc (jx_HK_nil rfl) (fun p => p == 8 || p == 12) 20 ?_
      simp only [jw, ju, jx_tg, Int.cast_ofNat_Int, Int.reduceAdd, Int.reduceToNat, Nat.reduceAdd, Nat.reduceMul, Nat.reduceBEq, Nat.reduceLeDiff, Int.reduceLE, Int.reduceLT, Int.reduceEq, Int.reduceNeg, Int.reduceSub, Int.reduceMul, not_false_eq_true, true_and, and_true, and_self, Bool.or_false, Bool.false_or, Bool.or_true, Bool.true_or, List.length_nil, List.length_cons, Nat.zero_le, or_true, true_or, Nat.le_refl, ↓reduceIte, Nat.reduceEqDiff, forall_const, false_and, and_false, false_implies, implies_true, not_true_eq_false, or_false, false_or, ne_eq, jd_X0_place, jf_X0, hR.1, cs_X0_place, jx_ck_c]
      refine ⟨by omega, fun c => loop (ms_lim b a).toNat 0 M (mm_up1 T a 0) 0 _ (by unfold ms_lim; split <;> omega) (by omega) (fun _ _ _ _ _ _ => rfl) hT hL (by rw [← ht0]; omega) hsp (by rw [← ht0]; omega) (fun v hv => mm_up1_ne (by omega)) mm_up1_eq (fun f => by rw [← ht0]; rfl), fun c => by omega⟩
    · exact hS.elim
