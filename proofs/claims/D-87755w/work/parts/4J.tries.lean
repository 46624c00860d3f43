/-! the reference: tries -/
set_option maxRecDepth 100000
def mm_up1 (T : Int → Int) (i v : Int) : Int → Int := fun j => if j = i then v else T j
theorem mm_up1_eq {T : Int → Int} {i v : Int} : mm_up1 T i v i = v := if_pos rfl
theorem mm_up1_ne {T : Int → Int} {i v j : Int} (h : j ≠ i) : mm_up1 T i v j = T j := if_neg h
/-- what an edge asks of stages, by ticks T -/
def mm_ws (b : Int) (T : Int → Int) : Int → Int → Int → Int → Int := fun x y t d => -d - (T y - T x - t) / b
/-- the first n acts can stand so -/
def ms_ok (S : jx_M) (b : Int) (n : Nat) (T : Int → Int) : Prop := mm_fits S T n b ∧ ∃ f, mm_SolE n (me_all S) (mm_ws b T) f
theorem mm_sum_congr {f g : Int → Int} (n : Nat) (h : ∀ v : Int, 0 ≤ v → v < n → f v = g v) : mm_sum f n = mm_sum g n := mm_sum_eq n h
theorem mm_fits_congr {S : jx_M} {b : Int} {n : Nat} {T T' : Int → Int} (h : ∀ v : Int, 0 ≤ v → v < n → T v = T' v) (hf : mm_fits S T n b) : mm_fits S T' n b := by
  intro k t a1 a2 a3 a4
  have := hf k t a1 a2 a3 a4
  unfold mm_fl at this ⊢
  rw [← mm_sum_congr n (f := mm_fb S T b k t) (fun v q0 q1 => by unfold mm_fb; rw [h v q0 q1])]
  exact this
theorem mm_SolE_congr {E : mm_E} {b : Int} {n : Nat} {T T' f : Int → Int} (hE : ∀ x y t d, E x y t d → 0 ≤ x ∧ 0 ≤ y) (h : ∀ v : Int, 0 ≤ v → v < n → T v = T' v) (hf : mm_SolE n E (mm_ws b T) f) : mm_SolE n E (mm_ws b T') f := by
  refine ⟨hf.1, fun x y t d he hx hy => ?_⟩
  have := hf.2 x y t d he hx hy
  unfold mm_ws at this ⊢
  rw [← h x (hE x y t d he).1 hx, ← h y (hE x y t d he).2 hy]
  exact this
theorem mm_LeastE_congr {E : mm_E} {b : Int} {n : Nat} {T T' f : Int → Int} (hE : ∀ x y t d, E x y t d → 0 ≤ x ∧ 0 ≤ y) (h : ∀ v : Int, 0 ≤ v → v < n → T v = T' v) (hf : mm_LeastE n E (mm_ws b T) f) : mm_LeastE n E (mm_ws b T') f :=
  ⟨mm_SolE_congr hE h hf.1, fun f' hf' => hf.2 f' (mm_SolE_congr hE (fun v a c => (h v a c).symm) hf')⟩
theorem ms_ok_congr {S : jx_M} {b : Int} {n : Nat} {T T' : Int → Int} (hE : ∀ x y t d, me_all S x y t d → 0 ≤ x ∧ 0 ≤ y) (h : ∀ v : Int, 0 ≤ v → v < n → T v = T' v) : ms_ok S b n T ↔ ms_ok S b n T' :=
  ⟨fun ⟨a, f, c⟩ => ⟨mm_fits_congr h a, f, mm_SolE_congr hE h c⟩, fun ⟨a, f, c⟩ => ⟨mm_fits_congr (fun v x z => (h v x z).symm) a, f, mm_SolE_congr hE (fun v x z => (h v x z).symm) c⟩⟩
/-- going through ticks: how it ends (0 all have theirs, 3 all are through, 4 spent), trials, ticks -/
noncomputable def ms_go (S : jx_M) (b : Int) : Nat → Int → (Int → Int) → Int → Int × Int × (Int → Int)
  | 0, _, T, tr => (9, tr, T)
  | f + 1, a, T, tr => if T a = (if a = 0 then 1 else b) then (if a = 0 then (3, tr, T) else ms_go S b f (a - 1) (mm_up1 T (a - 1) (T (a - 1) + 1)) tr)
    else if tr = 3000 then (4, tr, T)
    else @ite _ (ms_ok S b (a + 1).toNat T) (Classical.propDecidable _) (if a + 1 = S 0 9 then (0, tr + 1, T) else ms_go S b f (a + 1) (mm_up1 T (a + 1) 0) (tr + 1)) (ms_go S b f a (mm_up1 T a (T a + 1)) (tr + 1))
/-- what tries leaves -/
def ms_post (y b : Int) (M M' : jx_M) (R : Int × Int × (Int → Int)) : Prop := M' y 32 = R.2.1 ∧ (0 ≤ R.2.1 ∧ R.2.1 ≤ 3000) ∧ (R.1 = 0 ∨ R.1 = 3 ∨ R.1 = 4) ∧ (R.1 = 0 → (∀ v, 0 ≤ v → v < M y 9 → M' (y + 29) v = R.2.2 v ∧ (0 ≤ R.2.2 v ∧ R.2.2 v < b)) ∧ mm_LeastE (M y 9) (me_all (mY M y)) (mm_ws b R.2.2) (M' (y + 28)) ∧ mm_fits (mY M y) R.2.2 (M y 9).toNat b) ∧
  ∀ z i : Int, z ≠ y + 28 → z ≠ y + 29 → z ≠ y + 30 → ¬ (z = y ∧ i = 32) → M' z i = M z i
/-- edges stand in the reference's arrays -/
def mm_std (y : Int) (S : jx_M) (M : jx_M) : Prop := mm_EO (me_all S) (M (y + 15)) (M (y + 16)) (M (y + 17)) (M (y + 18)) (M y 20)
def js_X13_tries : jx_Sp := fun as g M Po => match as with
  | [(73, _, y), (0, _, b)] => ((1 ≤ M y 9 ∧ M y 9 ≤ 16) ∧ (1 ≤ b ∧ b ≤ 60) ∧ (0 ≤ M y 32 ∧ M y 32 ≤ 3000) ∧ mm_eok 16 y M ∧ mm_std y (mY M y) M ∧ mm_up (mY M y) ∧ mm_uok (mY M y)) ∧ ∀ M', ms_post y b M M' (ms_go (mY M y) b 61000 0 (fun _ => 0) (M y 32)) → Po (0, 0, (ms_go (mY M y) b 61000 0 (fun _ => 0) (M y 32)).1) g M'
  | _ => False
def cs_X13_tries : jx_Cs := [(672, 3, 0, 0, js_X13_fits), (681, 3, 0, 0, js_X13_holds)]
theorem hc_X13_tries {D : jx_D} {l : Launch} : jx_CsOK D l "LoopLaneModel" 2 cs_X13_tries := List.forall_mem_cons.mpr ⟨jc_X13_224 (jt_X13_fits l) (fun as g M Po (h : js_X13_fits as g M Po) => by unfold js_X13_fits at h; split at h <;> first | exact h.elim | exact ⟨_, _, _, rfl, rfl⟩) (by decide), List.forall_mem_cons.mpr ⟨jc_X13_227 (jt_X13_holds l) (fun as g M Po (h : js_X13_holds as g M Po) => by unfold js_X13_holds at h; split at h <;> first | exact h.elim | exact ⟨_, _, _, rfl, rfl⟩) (by decide), fun _ h => absurd h List.not_mem_nil⟩⟩
set_option maxHeartbeats 4000000 in
theorem jt_X13_tries (l : Launch) : jx_Ct l yX13_tries (ws_ yX13_tries cX13_tries 3 (some .int)) 2 0 0 js_X13_tries := by
  refine jx_Ct_c (rc := 0) (by decide) rfl (fun D as g M Po hS => ?_)
  unfold js_X13_tries at hS
  split at hS
  · rename_i n1 y n2 b
    obtain ⟨⟨h1, h2, h3, h4, h5, h6, h7⟩, hP⟩ := hS
    refine ⟨Nat.le_of_ble_eq_true rfl, ?_⟩
    have hE0 : ∀ x z t d, me_all (mY M y) x z t d → 0 ≤ x ∧ 0 ≤ z := fun x z t d he => by
      obtain ⟨e, e0, e1, rfl, rfl, -, -⟩ := h5.2 x z t d he
      have := h4.2 e e0 e1
      omega
    obtain ⟨Fr, hFr⟩ : ∃ q : jx_M → Prop, q = fun M' => ∀ z i : Int, z ≠ y + 28 → z ≠ y + 29 → z ≠ y + 30 → ¬ (z = y ∧ i = 32) → M' z i = M z i := ⟨_, rfl⟩
    have frj : ∀ M' (j k : Int), Fr M' → j ≠ 28 → j ≠ 29 → j ≠ 30 → j ≠ 0 → M' (y + j) k = M (y + j) k := fun M' j k h a1 a2 a3 a4 => by
      rw [hFr] at h
      exact h _ _ (by omega) (by omega) (by omega) (by omega)
    have fr0 : ∀ M' (k : Int), Fr M' → k ≠ 32 → M' y k = M y k := fun M' k h a1 => by
      rw [hFr] at h
      exact h _ _ (by omega) (by omega) (by omega) (by omega)
    have fr29 : ∀ M' (i v : Int), Fr M' → Fr (jx_u M' (y + 29) i v) := fun M' i v h => by
      rw [hFr] at h ⊢
      intro z k a1 a2 a3 a4
      rw [jx_u_a _ _ _ _ _ _ a2]
      exact h z k a1 a2 a3 a4
    have fr32 : ∀ M' (v : Int), Fr M' → Fr (jx_u M' y 32 v) := fun M' v h => by
      rw [hFr] at h ⊢
      intro z k a1 a2 a3 a4
      unfold jx_u
      rw [if_neg a4]
      exact h z k a1 a2 a3 a4
    have loop : ∀ (f : Nat) (a tr : Int) (T : Int → Int) (M' : jx_M), 20 * (3000 - tr) + a < f → (0 ≤ a ∧ a < M y 9) → (0 ≤ tr ∧ tr ≤ 3000) → Fr M' → M' y 32 = tr → (∀ v, 0 ≤ v → v ≤ a → M' (y + 29) v = T v) → (∀ v, 0 ≤ v → v < a → 0 ≤ T v ∧ T v < b) → (0 ≤ T a ∧ T a ≤ b ∧ (a = 0 → T a ≤ 1)) → (0 < a → T 0 < 1) → (∀ M', ms_post y b M M' (ms_go (mY M y) b f a T tr) → Po (0, 0, (ms_go (mY M y) b f a T tr).1) g M') → jx_V D l (yX13_tries.cls, cX13_tries, 3, 0, [], 2, 0, 0, yX13_tries.name) Po 9 [(73, n1, y), (0, n2, b), (0, 0, a)] [] (0, 0) g (M') := by
      intro f
      induction f with
      | zero => intro a tr T M' hf; omega
      | succ f ih =>
        intro a tr T M' hf ha htr k1 k2 k3 k4 k5 k6 hE
        have q29 := k3 a ha.1 (Int.le_refl _)
        have post : ∀ (M2 : jx_M) (R : Int × Int × (Int → Int)), Fr M2 → M2 y 32 = R.2.1 → (0 ≤ R.2.1 ∧ R.2.1 ≤ 3000) → (R.1 = 3 ∨ R.1 = 4) → ms_post y b M M2 R := fun M2 R j1 j2 j3 j4 => ⟨j2, j3, by omega, fun z => by omega, by rw [hFr] at j1; exact j1⟩
        unfold ms_go at hE
        by_cases c1 : T a = (if a = 0 then 1 else b)
        · rw [if_pos c1] at hE
          by_cases c2 : a = 0
          · rw [if_pos c2] at hE c1
            subst c2
            refine jx_runL (o := jo_X13) (cs := cs_X13_tries) (hf := jx_nh) jo_X13_ok hc_X13_tries (jx_HK_nil rfl) (fun p => p == 9 || p == 31 || p == 51) 60 ?_
            simp only [jw, ju, jx_tg, Int.cast_ofNat_Int, Int.reduceAdd, Int.reduceToNat, Nat.reduceAdd, Nat.reduceMul, Nat.reduceBEq, Nat.reduceLeDiff, Int.reduceLE, Int.reduceLT, Int.reduceEq, Int.reduceNeg, Int.reduceSub, Int.reduceMul, not_false_eq_true, true_and, and_true, and_self, Bool.or_false, Bool.false_or, Bool.or_true, Bool.true_or, List.length_nil, List.length_cons, Nat.zero_le, or_true, true_or, Nat.le_refl, ↓reduceIte, Nat.reduceEqDiff, forall_const, false_and, and_false, false_implies, implies_true, not_true_eq_false, or_false, false_or, ne_eq, jd_X13_tries, jf_X13, q29, js_X13_fits, js_X13_holds, cs_X13_tries, jx_ck_c]
            refine ⟨by omega, fun c => by omega, fun c => ?_⟩
            refine jx_runL (o := jo_X13) (cs := cs_X13_tries) (hf := jx_nh) jo_X13_ok hc_X13_tries (jx_HK_nil rfl) (fun p => p == 9) 60 ?_
            simp only [jw, ju, jx_tg, Int.cast_ofNat_Int, Int.reduceAdd, Int.reduceToNat, Nat.reduceAdd, Nat.reduceMul, Nat.reduceBEq, Nat.reduceLeDiff, Int.reduceLE, Int.reduceLT, Int.reduceEq, Int.reduceNeg, Int.reduceSub, Int.reduceMul, not_false_eq_true, true_and, and_true, and_self, Bool.or_false, Bool.false_or, Bool.or_true, Bool.true_or, List.length_nil, List.length_cons, Nat.zero_le, or_true, true_or, Nat.le_refl, ↓reduceIte, Nat.reduceEqDiff, forall_const, false_and, and_false, false_implies, implies_true, not_true_eq_false, or_false, false_or, ne_eq, jd_X13_tries, jf_X13, js_X13_fits, js_X13_holds, cs_X13_tries, jx_ck_c]
            refine jx_runL (o := jo_X13) (cs := cs_X13_tries) (hf := jx_nh) jo_X13_ok hc_X13_tries (jx_HK_nil rfl) (fun p => p == 9) 60 ?_
            simp only [jw, ju, jx_tg, Int.cast_ofNat_Int, Int.reduceAdd, Int.reduceToNat, Nat.reduceAdd, Nat.reduceMul, Nat.reduceBEq, Nat.reduceLeDiff, Int.reduceLE, Int.reduceLT, Int.reduceEq, Int.reduceNeg, Int.reduceSub, Int.reduceMul, not_false_eq_true, true_and, and_true, and_self, Bool.or_false, Bool.false_or, Bool.or_true, Bool.true_or, List.length_nil, List.length_cons, Nat.zero_le, or_true, true_or, Nat.le_refl, ↓reduceIte, Nat.reduceEqDiff, forall_const, false_and, and_false, false_implies, implies_true, not_true_eq_false, or_false, false_or, ne_eq, jd_X13_tries, jf_X13, js_X13_fits, js_X13_holds, cs_X13_tries, jx_ck_c]
            exact hE M' (post M' _ k1 k2 htr (Or.inl rfl))
          · rw [if_neg c2] at hE c1
            have q29' := k3 (a - 1) (by omega) (by omega)
            have t1 := k4 (a - 1) (by omega) (by omega)
            refine jx_runL (o := jo_X13) (cs := cs_X13_tries) (hf := jx_nh) jo_X13_ok hc_X13_tries (jx_HK_nil rfl) (fun p => p == 9 || p == 31 || p == 51) 60 ?_
            simp only [jw, ju, jx_tg, Int.cast_ofNat_Int, Int.reduceAdd, Int.reduceToNat, Nat.reduceAdd, Nat.reduceMul, Nat.reduceBEq, Nat.reduceLeDiff, Int.reduceLE, Int.reduceLT, Int.reduceEq, Int.reduceNeg, Int.reduceSub, Int.reduceMul, not_false_eq_true, true_and, and_true, and_self, Bool.or_false, Bool.false_or, Bool.or_true, Bool.true_or, List.length_nil, List.length_cons, Nat.zero_le, or_true, true_or, Nat.le_refl, ↓reduceIte, Nat.reduceEqDiff, forall_const, false_and, and_false, false_implies, implies_true, not_true_eq_false, or_false, false_or, ne_eq, jd_X13_tries, jf_X13, q29, js_X13_fits, js_X13_holds, cs_X13_tries, jx_ck_c]
            refine ⟨by omega, fun c => by omega, fun c => ⟨by omega, by omega, fun c3 => ⟨by omega, fun c4 => by omega, fun c4 => ?_⟩, fun c3 => by omega⟩⟩
            refine jx_runL (o := jo_X13) (cs := cs_X13_tries) (hf := jx_nh) jo_X13_ok hc_X13_tries (jx_HK_nil rfl) (fun p => p == 9) 60 ?_
            simp only [jw, ju, jx_tg, Int.cast_ofNat_Int, Int.reduceAdd, Int.reduceToNat, Nat.reduceAdd, Nat.reduceMul, Nat.reduceBEq, Nat.reduceLeDiff, Int.reduceLE, Int.reduceLT, Int.reduceEq, Int.reduceNeg, Int.reduceSub, Int.reduceMul, not_false_eq_true, true_and, and_true, and_self, Bool.or_false, Bool.false_or, Bool.or_true, Bool.true_or, List.length_nil, List.length_cons, Nat.zero_le, or_true, true_or, Nat.le_refl, ↓reduceIte, Nat.reduceEqDiff, forall_const, false_and, and_false, false_implies, implies_true, not_true_eq_false, or_false, false_or, ne_eq, jd_X13_tries, jf_X13, js_X13_fits, js_X13_holds, cs_X13_tries, jx_ck_c]
            rw [show a + -1 = a - 1 by omega, q29']
            refine ⟨by omega, fun c => by omega, fun c => ⟨by omega, by omega, ?_⟩⟩
            refine ih (a - 1) tr _ _ (by omega) (by omega) htr (fr29 _ _ _ k1) ?_ (fun v v0 v1 => ?_) (fun v v0 v1 => ?_) ?_ (fun z => ?_) hE
            · rw [jx_u_a _ _ _ _ _ _ (show y ≠ y + 29 by omega)]
              exact k2
            · by_cases hv : v = a - 1
              · rw [hv, jx_u_eq, mm_up1_eq]
              · rw [jx_u_j _ _ _ _ _ _ hv, mm_up1_ne hv]
                exact k3 v v0 (by omega)
            · rw [mm_up1_ne (by omega)]
              exact k4 v v0 (by omega)
            · rw [mm_up1_eq]
              refine ⟨by omega, by omega, fun z => ?_⟩
              have := k6 (by omega)
              rw [z]
              omega
            · rw [mm_up1_ne (by omega)]
              exact k6 (by omega)
        · rw [if_neg c1] at hE
          have hta : 0 ≤ T a ∧ T a < b := by
            by_cases c2 : a = 0
            · rw [if_pos c2] at c1
              have := k5.2.2 c2
              omega
            · rw [if_neg c2] at c1
              omega
          have go51 : jx_V D l (yX13_tries.cls, cX13_tries, 3, 0, [], 2, 0, 0, yX13_tries.name) Po 51 [(73, n1, y), (0, n2, b), (0, 0, a)] [] (0, 0) g (M') := by
            by_cases c3 : tr = 3000
            · rw [if_pos c3] at hE
              rw [c3] at k2
              refine jx_runL (o := jo_X13) (cs := cs_X13_tries) (hf := jx_nh) jo_X13_ok hc_X13_tries (jx_HK_nil rfl) (fun p => p == 63) 60 ?_
              simp only [jw, ju, jx_tg, Int.cast_ofNat_Int, Int.reduceAdd, Int.reduceToNat, Nat.reduceAdd, Nat.reduceMul, Nat.reduceBEq, Nat.reduceLeDiff, Int.reduceLE, Int.reduceLT, Int.reduceEq, Int.reduceNeg, Int.reduceSub, Int.reduceMul, not_false_eq_true, true_and, and_true, and_self, Bool.or_false, Bool.false_or, Bool.or_true, Bool.true_or, List.length_nil, List.length_cons, Nat.zero_le, or_true, true_or, Nat.le_refl, ↓reduceIte, Nat.reduceEqDiff, forall_const, false_and, and_false, false_implies, implies_true, not_true_eq_false, or_false, false_or, ne_eq, jd_X13_tries, jf_X13, k2, js_X13_fits, js_X13_holds, cs_X13_tries, jx_ck_c]
              exact hE M' (post M' _ k1 (by rw [k2]; exact c3.symm) htr (Or.inr rfl))
            · rw [if_neg c3] at hE
              have f9 : jx_u M' y 32 (tr + 1) y 9 = M y 9 := by rw [jx_u_j _ _ _ _ _ _ (by decide)]; exact fr0 M' 9 k1 (by decide)
              have k1' := fr32 M' (tr + 1) k1
              have hT : ∀ v : Int, 0 ≤ v → v < ((a + 1).toNat : Nat) → jx_u M' y 32 (tr + 1) (y + 29) v = T v := fun v v0 v1 => by
                rw [jx_u_a _ _ _ _ _ _ (show y + 29 ≠ y by omega)]
                exact k3 v v0 (by omega)
              have hTb : ∀ v, 0 ≤ v → v < a + 1 → 0 ≤ jx_u M' y 32 (tr + 1) (y + 29) v ∧ jx_u M' y 32 (tr + 1) (y + 29) v < b := fun v v0 v1 => by
                rw [hT v v0 (by omega)]
                by_cases hv : v = a
                · rw [hv]; exact hta
                · exact k4 v v0 (by omega)
              have fitE : mm_fits (mY (jx_u M' y 32 (tr + 1)) y) (jx_u M' y 32 (tr + 1) (y + 29)) (a + 1).toNat b ↔ mm_fits (mY M y) T (a + 1).toNat b := by
                have e : ∀ T', mm_fits (mY (jx_u M' y 32 (tr + 1)) y) T' (a + 1).toNat b ↔ mm_fits (mY M y) T' (a + 1).toNat b := fun T' => by
                  unfold mm_fits mm_fl
                  have e3 : ∀ k t v, mm_fb (mY (jx_u M' y 32 (tr + 1)) y) T' b k t v = mm_fb (mY M y) T' b k t v := fun k t v => by
                    unfold mm_fb
                    rw [mY_j, mY_j, frj _ 3 v k1' (by decide) (by decide) (by decide) (by decide), frj _ 4 v k1' (by decide) (by decide) (by decide) (by decide)]
                    rfl
                  have e4 : ∀ k t, mm_fb (mY (jx_u M' y 32 (tr + 1)) y) T' b k t = mm_fb (mY M y) T' b k t := fun k t => funext (e3 k t)
                  have e5 : ∀ k, mY (jx_u M' y 32 (tr + 1)) y 10 k = mY M y 10 k := fun k => frj _ 10 k k1' (by decide) (by decide) (by decide) (by decide)
                  simp only [e4, e5]
                rw [e]
                exact ⟨mm_fits_congr hT, mm_fits_congr (fun v v0 v1 => (hT v v0 v1).symm)⟩
              have fail : ∀ M2, Fr M2 → M2 y 32 = tr + 1 → (∀ v, 0 ≤ v → v ≤ a → M2 (y + 29) v = T v) → ¬ ms_ok (mY M y) b (a + 1).toNat T → jx_V D l (yX13_tries.cls, cX13_tries, 3, 0, [], 2, 0, 0, yX13_tries.name) Po 95 [(73, n1, y), (0, n2, b), (0, 0, a)] [] (0, 0) g (M2) := by
                intro M2 j1 j2 j3 j4
                rw [if_neg j4] at hE
                have q := j3 a ha.1 (Int.le_refl _)
                refine jx_runL (o := jo_X13) (cs := cs_X13_tries) (hf := jx_nh) jo_X13_ok hc_X13_tries (jx_HK_nil rfl) (fun p => p == 9) 60 ?_
                simp only [jw, ju, jx_tg, Int.cast_ofNat_Int, Int.reduceAdd, Int.reduceToNat, Nat.reduceAdd, Nat.reduceMul, Nat.reduceBEq, Nat.reduceLeDiff, Int.reduceLE, Int.reduceLT, Int.reduceEq, Int.reduceNeg, Int.reduceSub, Int.reduceMul, not_false_eq_true, true_and, and_true, and_self, Bool.or_false, Bool.false_or, Bool.or_true, Bool.true_or, List.length_nil, List.length_cons, Nat.zero_le, or_true, true_or, Nat.le_refl, ↓reduceIte, Nat.reduceEqDiff, forall_const, false_and, and_false, false_implies, implies_true, not_true_eq_false, or_false, false_or, ne_eq, jd_X13_tries, jf_X13, q, js_X13_fits, js_X13_holds, cs_X13_tries, jx_ck_c]
                refine ⟨by omega, by omega, ih a (tr + 1) _ _ (by omega) ha (by omega) (fr29 _ _ _ j1) ?_ (fun v v0 v1 => ?_) (fun v v0 v1 => ?_) ?_ (fun z => ?_) hE⟩
                · rw [jx_u_a _ _ _ _ _ _ (show y ≠ y + 29 by omega)]
                  exact j2
                · by_cases hv : v = a
                  · rw [hv, jx_u_eq, mm_up1_eq]
                  · rw [jx_u_j _ _ _ _ _ _ hv, mm_up1_ne hv]
                    exact j3 v v0 (by omega)
                · rw [mm_up1_ne (by omega)]
                  exact k4 v v0 (by omega)
                · rw [mm_up1_eq]
                  refine ⟨by omega, by omega, fun z => ?_⟩
                  rw [if_pos z] at c1
                  have := k5.2.2 z
                  omega
                · rw [mm_up1_ne (by omega)]
                  exact k6 z
              refine jx_runL (o := jo_X13) (cs := cs_X13_tries) (hf := jx_nh) jo_X13_ok hc_X13_tries (jx_HK_nil rfl) (fun p => p == 63) 60 ?_
              simp only [jw, ju, jx_tg, Int.cast_ofNat_Int, Int.reduceAdd, Int.reduceToNat, Nat.reduceAdd, Nat.reduceMul, Nat.reduceBEq, Nat.reduceLeDiff, Int.reduceLE, Int.reduceLT, Int.reduceEq, Int.reduceNeg, Int.reduceSub, Int.reduceMul, not_false_eq_true, true_and, and_true, and_self, Bool.or_false, Bool.false_or, Bool.or_true, Bool.true_or, List.length_nil, List.length_cons, Nat.zero_le, or_true, true_or, Nat.le_refl, ↓reduceIte, Nat.reduceEqDiff, forall_const, false_and, and_false, false_implies, implies_true, not_true_eq_false, or_false, false_or, ne_eq, jd_X13_tries, jf_X13, k2, js_X13_fits, js_X13_holds, cs_X13_tries, jx_ck_c]
              refine ⟨by omega, fun c => ?_, fun c => absurd c (by omega)⟩
              refine jx_runL (o := jo_X13) (cs := cs_X13_tries) (hf := jx_nh) jo_X13_ok hc_X13_tries (jx_HK_nil rfl) (fun p => p == 81 || p == 95) 60 ?_
              simp only [jw, ju, jx_tg, Int.cast_ofNat_Int, Int.reduceAdd, Int.reduceToNat, Nat.reduceAdd, Nat.reduceMul, Nat.reduceBEq, Nat.reduceLeDiff, Int.reduceLE, Int.reduceLT, Int.reduceEq, Int.reduceNeg, Int.reduceSub, Int.reduceMul, not_false_eq_true, true_and, and_true, and_self, Bool.or_false, Bool.false_or, Bool.or_true, Bool.true_or, List.length_nil, List.length_cons, Nat.zero_le, or_true, true_or, Nat.le_refl, ↓reduceIte, Nat.reduceEqDiff, forall_const, false_and, and_false, false_implies, implies_true, not_true_eq_false, or_false, false_or, ne_eq, jd_X13_tries, jf_X13, k2, js_X13_fits, js_X13_holds, cs_X13_tries, jx_ck_c]
              refine ⟨⟨by omega, by omega, fun v v0 v1 => ?_, fun k q0 q1 => ?_, fun v v0 v1 => ?_⟩, fun r M2 j1 j2 => ?_⟩
              · rw [frj _ 3 v k1 (by decide) (by decide) (by decide) (by decide), frj _ 4 v k1 (by decide) (by decide) (by decide) (by decide)]
                exact h6 v v0 (by rw [mY_0]; omega)
              · rw [mY_j, frj _ 10 k k1' (by decide) (by decide) (by decide) (by decide)]
                exact h7 k q0 q1
              · have := hTb v v0 v1
                rw [jx_u_a _ _ _ _ _ _ (show y + 29 ≠ y by omega)] at this
                exact this
              · rw [fitE] at j1
                have k1'' : Fr M2 := by
                  rw [hFr] at k1' ⊢
                  intro z k a1 a2 a3 a4
                  rw [j2 z k a3]
                  exact k1' z k a1 a2 a3 a4
                have g32 : M2 y 32 = tr + 1 := by rw [j2 y 32 (by omega), jx_u_eq]
                have g29 : ∀ v, 0 ≤ v → v ≤ a → M2 (y + 29) v = T v := fun v v0 v1 => by rw [j2 _ _ (by omega)]; exact hT v v0 (by omega)
                rcases j1 with ⟨rfl, j1⟩ | ⟨rfl, j1⟩
                · refine jx_runL (o := jo_X13) (cs := cs_X13_tries) (hf := jx_nh) jo_X13_ok hc_X13_tries (jx_HK_nil rfl) (fun p => p == 92 || p == 95) 60 ?_
                  simp only [jw, ju, jx_tg, Int.cast_ofNat_Int, Int.reduceAdd, Int.reduceToNat, Nat.reduceAdd, Nat.reduceMul, Nat.reduceBEq, Nat.reduceLeDiff, Int.reduceLE, Int.reduceLT, Int.reduceEq, Int.reduceNeg, Int.reduceSub, Int.reduceMul, not_false_eq_true, true_and, and_true, and_self, Bool.or_false, Bool.false_or, Bool.or_true, Bool.true_or, List.length_nil, List.length_cons, Nat.zero_le, or_true, true_or, Nat.le_refl, ↓reduceIte, Nat.reduceEqDiff, forall_const, false_and, and_false, false_implies, implies_true, not_true_eq_false, or_false, false_or, ne_eq, jd_X13_tries, jf_X13, js_X13_fits, js_X13_holds, cs_X13_tries, jx_ck_c]
                  have ew : ∀ e, mm_wh y b M2 e = mm_ws b (M2 (y + 29)) (M2 (y + 15) e) (M2 (y + 16) e) (M2 (y + 17) e) (M2 (y + 18) e) := fun e => rfl
                  have a15 : M2 (y + 15) = M (y + 15) := funext fun k => frj M2 15 k k1'' (by decide) (by decide) (by decide) (by decide)
                  have a16 : M2 (y + 16) = M (y + 16) := funext fun k => frj M2 16 k k1'' (by decide) (by decide) (by decide) (by decide)
                  have a17 : M2 (y + 17) = M (y + 17) := funext fun k => frj M2 17 k k1'' (by decide) (by decide) (by decide) (by decide)
                  have a18 : M2 (y + 18) = M (y + 18) := funext fun k => frj M2 18 k k1'' (by decide) (by decide) (by decide) (by decide)
                  have a20 : M2 y 20 = M y 20 := fr0 M2 20 k1'' (by decide)
                  have hEO : mm_EO (me_all (mY M y)) (M2 (y + 15)) (M2 (y + 16)) (M2 (y + 17)) (M2 (y + 18)) (M2 y 20) := by rw [a15, a16, a17, a18, a20]; exact h5
                  have heok : mm_eok 16 y M2 := by unfold mm_eok; rw [a15, a16, a17, a18, a20]; exact h4
                  have hn : (((a + 1).toNat : Nat) : Int) = a + 1 := by omega
                  have hg29 : ∀ v : Int, 0 ≤ v → v < ((a + 1).toNat : Nat) → M2 (y + 29) v = T v := fun v v0 v1 => g29 v v0 (by omega)
                  refine ⟨⟨by omega, by omega, heok, fun v v0 v1 => ?_⟩, fun r M3 i1 i2 => ?_⟩
                  · rw [g29 v v0 (by omega), ← hT v v0 (by omega)]
                    exact hTb v v0 v1
                  · rw [show mm_wh y b M2 = fun e => mm_ws b (M2 (y + 29)) (M2 (y + 15) e) (M2 (y + 16) e) (M2 (y + 17) e) (M2 (y + 18) e) from funext ew] at i1
                    rw [mm_least_E hEO] at i1
                    simp only [mm_sol_E hEO] at i1
                    have k3'' : Fr M3 := by
                      rw [hFr] at k1'' ⊢
                      intro z k a1 a2 a3 a4
                      rw [i2 z k a1]
                      exact k1'' z k a1 a2 a3 a4
                    have g32' : M3 y 32 = tr + 1 := by rw [i2 y 32 (by omega)]; exact g32
                    have g29' : ∀ v, 0 ≤ v → v ≤ a → M3 (y + 29) v = T v := fun v v0 v1 => by rw [i2 _ _ (by omega)]; exact g29 v v0 v1
                    rcases i1 with ⟨rfl, i1⟩ | ⟨rfl, i1⟩
                    · have hok : ms_ok (mY M y) b (a + 1).toNat T := ⟨j1, _, mm_SolE_congr hE0 hg29 (by rw [hn]; exact i1.1)⟩
                      rw [if_pos hok] at hE
                      have q9 : M3 y 9 = M y 9 := fr0 M3 9 k3'' (by decide)
                      refine jx_runL (o := jo_X13) (cs := cs_X13_tries) (hf := jx_nh) jo_X13_ok hc_X13_tries (jx_HK_nil rfl) (fun p => p == 95 || p == 108) 60 ?_
                      simp only [jw, ju, jx_tg, Int.cast_ofNat_Int, Int.reduceAdd, Int.reduceToNat, Nat.reduceAdd, Nat.reduceMul, Nat.reduceBEq, Nat.reduceLeDiff, Int.reduceLE, Int.reduceLT, Int.reduceEq, Int.reduceNeg, Int.reduceSub, Int.reduceMul, not_false_eq_true, true_and, and_true, and_self, Bool.or_false, Bool.false_or, Bool.or_true, Bool.true_or, List.length_nil, List.length_cons, Nat.zero_le, or_true, true_or, Nat.le_refl, ↓reduceIte, Nat.reduceEqDiff, forall_const, false_and, and_false, false_implies, implies_true, not_true_eq_false, or_false, false_or, ne_eq, jd_X13_tries, jf_X13, js_X13_fits, js_X13_holds, cs_X13_tries, jx_ck_c]
                      refine jx_runL (o := jo_X13) (cs := cs_X13_tries) (hf := jx_nh) jo_X13_ok hc_X13_tries (jx_HK_nil rfl) (fun p => p == 9) 60 ?_
                      simp only [jw, ju, jx_tg, Int.cast_ofNat_Int, Int.reduceAdd, Int.reduceToNat, Nat.reduceAdd, Nat.reduceMul, Nat.reduceBEq, Nat.reduceLeDiff, Int.reduceLE, Int.reduceLT, Int.reduceEq, Int.reduceNeg, Int.reduceSub, Int.reduceMul, not_false_eq_true, true_and, and_true, and_self, Bool.or_false, Bool.false_or, Bool.or_true, Bool.true_or, List.length_nil, List.length_cons, Nat.zero_le, or_true, true_or, Nat.le_refl, ↓reduceIte, Nat.reduceEqDiff, forall_const, false_and, and_false, false_implies, implies_true, not_true_eq_false, or_false, false_or, ne_eq, jd_X13_tries, jf_X13, q9, js_X13_fits, js_X13_holds, cs_X13_tries, jx_ck_c]
                      by_cases c5 : a + 1 = M y 9
                      · rw [if_pos (show a + 1 = mY M y 0 9 by rw [mY_0]; exact c5)] at hE
                        refine ⟨by omega, fun c => by omega, fun c => hE M3 ⟨g32', by show 0 ≤ tr + 1 ∧ tr + 1 ≤ 3000; omega, Or.inl rfl, fun _ => ⟨fun v v0 v1 => ⟨g29' v v0 (by omega), ?_⟩, ?_, ?_⟩, by rw [hFr] at k3''; exact k3''⟩⟩
                        · show 0 ≤ T v ∧ T v < b
                          rw [← hT v v0 (by omega)]
                          exact hTb v v0 (by omega)
                        · rw [← c5, ← hn]
                          exact mm_LeastE_congr hE0 hg29 (by rw [hn]; exact i1)
                        · rw [← c5]
                          exact j1
                      · rw [if_neg (show ¬ a + 1 = mY M y 0 9 by rw [mY_0]; exact c5)] at hE
                        refine ⟨by omega, fun c => ⟨by omega, ih (a + 1) (tr + 1) _ _ (by omega) (by omega) (by omega) (fr29 _ _ _ k3'') ?_ (fun v v0 v1 => ?_) (fun v v0 v1 => ?_) ?_ (fun z => ?_) hE⟩, fun c => by omega⟩
                        · rw [jx_u_a _ _ _ _ _ _ (show y ≠ y + 29 by omega)]
                          exact g32'
                        · by_cases hv : v = a + 1
                          · rw [hv, jx_u_eq, mm_up1_eq]
                          · rw [jx_u_j _ _ _ _ _ _ hv, mm_up1_ne hv]
                            exact g29' v v0 (by omega)
                        · rw [mm_up1_ne (by omega), ← hT v v0 (by omega)]
                          exact hTb v v0 (by omega)
                        · rw [mm_up1_eq]
                          omega
                        · rw [mm_up1_ne (by omega)]
                          by_cases c6 : a = 0
                          · rw [if_pos c6] at c1
                            have := k5.2.2 c6
                            rw [c6] at this c1
                            omega
                          · exact k6 (by omega)
                    · refine jx_runL (o := jo_X13) (cs := cs_X13_tries) (hf := jx_nh) jo_X13_ok hc_X13_tries (jx_HK_nil rfl) (fun p => p == 95 || p == 108) 60 ?_
                      simp only [jw, ju, jx_tg, Int.cast_ofNat_Int, Int.reduceAdd, Int.reduceToNat, Nat.reduceAdd, Nat.reduceMul, Nat.reduceBEq, Nat.reduceLeDiff, Int.reduceLE, Int.reduceLT, Int.reduceEq, Int.reduceNeg, Int.reduceSub, Int.reduceMul, not_false_eq_true, true_and, and_true, and_self, Bool.or_false, Bool.false_or, Bool.or_true, Bool.true_or, List.length_nil, List.length_cons, Nat.zero_le, or_true, true_or, Nat.le_refl, ↓reduceIte, Nat.reduceEqDiff, forall_const, false_and, and_false, false_implies, implies_true, not_true_eq_false, or_false, false_or, ne_eq, jd_X13_tries, jf_X13, js_X13_fits, js_X13_holds, cs_X13_tries, jx_ck_c]
                      refine fail M3 k3'' g32' g29' (fun z => i1 ?_)
                      obtain ⟨z1, f', z2⟩ := z
                      exact ⟨f', by rw [← hn]; exact mm_SolE_congr hE0 (fun v v0 v1 => (hg29 v v0 v1).symm) z2⟩
                · refine jx_runL (o := jo_X13) (cs := cs_X13_tries) (hf := jx_nh) jo_X13_ok hc_X13_tries (jx_HK_nil rfl) (fun p => p == 84 || p == 95) 60 ?_
                  simp only [jw, ju, jx_tg, Int.cast_ofNat_Int, Int.reduceAdd, Int.reduceToNat, Nat.reduceAdd, Nat.reduceMul, Nat.reduceBEq, Nat.reduceLeDiff, Int.reduceLE, Int.reduceLT, Int.reduceEq, Int.reduceNeg, Int.reduceSub, Int.reduceMul, not_false_eq_true, true_and, and_true, and_self, Bool.or_false, Bool.false_or, Bool.or_true, Bool.true_or, List.length_nil, List.length_cons, Nat.zero_le, or_true, true_or, Nat.le_refl, ↓reduceIte, Nat.reduceEqDiff, forall_const, false_and, and_false, false_implies, implies_true, not_true_eq_false, or_false, false_or, ne_eq, jd_X13_tries, jf_X13, js_X13_fits, js_X13_holds, cs_X13_tries, jx_ck_c]
                  exact fail M2 k1'' g32 g29 (fun z => j1 z.1)
          by_cases c2 : a = 0
          · rw [if_pos c2] at c1
            subst c2
            refine jx_runL (o := jo_X13) (cs := cs_X13_tries) (hf := jx_nh) jo_X13_ok hc_X13_tries (jx_HK_nil rfl) (fun p => p == 9 || p == 31 || p == 51) 60 ?_
            simp only [jw, ju, jx_tg, Int.cast_ofNat_Int, Int.reduceAdd, Int.reduceToNat, Nat.reduceAdd, Nat.reduceMul, Nat.reduceBEq, Nat.reduceLeDiff, Int.reduceLE, Int.reduceLT, Int.reduceEq, Int.reduceNeg, Int.reduceSub, Int.reduceMul, not_false_eq_true, true_and, and_true, and_self, Bool.or_false, Bool.false_or, Bool.or_true, Bool.true_or, List.length_nil, List.length_cons, Nat.zero_le, or_true, true_or, Nat.le_refl, ↓reduceIte, Nat.reduceEqDiff, forall_const, false_and, and_false, false_implies, implies_true, not_true_eq_false, or_false, false_or, ne_eq, jd_X13_tries, jf_X13, q29, js_X13_fits, js_X13_holds, cs_X13_tries, jx_ck_c]
            exact ⟨by omega, fun c => go51, fun c => by omega⟩
          · rw [if_neg c2] at c1
            refine jx_runL (o := jo_X13) (cs := cs_X13_tries) (hf := jx_nh) jo_X13_ok hc_X13_tries (jx_HK_nil rfl) (fun p => p == 9 || p == 31 || p == 51) 60 ?_
            simp only [jw, ju, jx_tg, Int.cast_ofNat_Int, Int.reduceAdd, Int.reduceToNat, Nat.reduceAdd, Nat.reduceMul, Nat.reduceBEq, Nat.reduceLeDiff, Int.reduceLE, Int.reduceLT, Int.reduceEq, Int.reduceNeg, Int.reduceSub, Int.reduceMul, not_false_eq_true, true_and, and_true, and_self, Bool.or_false, Bool.false_or, Bool.or_true, Bool.true_or, List.length_nil, List.length_cons, Nat.zero_le, or_true, true_or, Nat.le_refl, ↓reduceIte, Nat.reduceEqDiff, forall_const, false_and, and_false, false_implies, implies_true, not_true_eq_false, or_false, false_or, ne_eq, jd_X13_tries, jf_X13, q29, js_X13_fits, js_X13_holds, cs_X13_tries, jx_ck_c]
            exact ⟨by omega, fun c => by omega, fun c => ⟨by omega, by omega, fun c3 => ⟨by omega, fun c4 => go51, fun c4 => by omega⟩, fun c3 => by omega⟩⟩
    refine jx_runL (o := jo_X13) (cs := cs_X13_tries) (hf := jx_nh) jo_X13_ok hc_X13_tries (jx_HK_nil rfl) (fun p => p == 9) 60 ?_
    simp only [jw, ju, jx_tg, Int.cast_ofNat_Int, Int.reduceAdd, Int.reduceToNat, Nat.reduceAdd, Nat.reduceMul, Nat.reduceBEq, Nat.reduceLeDiff, Int.reduceLE, Int.reduceLT, Int.reduceEq, Int.reduceNeg, Int.reduceSub, Int.reduceMul, not_false_eq_true, true_and, and_true, and_self, Bool.or_false, Bool.false_or, Bool.or_true, Bool.true_or, List.length_nil, List.length_cons, Nat.zero_le, or_true, true_or, Nat.le_refl, ↓reduceIte, Nat.reduceEqDiff, forall_const, false_and, and_false, false_implies, implies_true, not_true_eq_false, or_false, false_or, ne_eq, jd_X13_tries, jf_X13, js_X13_fits, js_X13_holds, cs_X13_tries, jx_ck_c]
    refine loop 61000 0 (M y 32) (fun _ => 0) _ (by omega) (by omega) h3 (fr29 _ _ _ (by rw [hFr]; exact fun _ _ _ _ _ _ => rfl)) ?_ (fun v v0 v1 => ?_) (fun v v0 v1 => by omega) ⟨by omega, by omega, fun _ => by omega⟩ (fun z => by omega) hP
    · rw [jx_u_a _ _ _ _ _ _ (show y ≠ y + 29 by omega)]
    · rw [show v = 0 by omega, jx_u_eq]
  · exact hS.elim
