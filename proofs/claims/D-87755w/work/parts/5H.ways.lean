/-! LoopLane: roundedUp, findWays -/
set_option maxRecDepth 100000
def js_X0_roundedUp : jx_Sp := fun as g M Po => match as with
  | [(0, _, v), (0, _, b)] => ((-1000 ≤ v ∧ v ≤ 1000) ∧ 1 ≤ b ∧ b ≤ 1000) ∧ Po (0, 0, -((-v) / b)) g M
  | _ => False
def cs_X0_roundedUp : jx_Cs := [(271, 2, 0, 0, js_J10_floorDiv)]
theorem hc_X0_roundedUp {D : jx_D} {l : Launch} : jx_CsOK D l "LoopLane" 2 cs_X0_roundedUp := List.forall_mem_cons.mpr ⟨jc_X0_90 (jt_J10_floorDiv l) (fun as g M Po (h : js_J10_floorDiv as g M Po) => by unfold js_J10_floorDiv at h; split at h <;> first | exact h.elim | exact rfl) (by decide), fun _ h => absurd h List.not_mem_nil⟩
set_option maxHeartbeats 4000000 in
theorem jt_X0_roundedUp (l : Launch) : jx_Ct l yX0_roundedUp (ws_ yX0_roundedUp cX0_roundedUp 2 (some .int)) 2 0 0 js_X0_roundedUp := by
  refine jx_Ct_c (rc := 0) (by decide) rfl (fun D as g M Po hS => ?_)
  unfold js_X0_roundedUp at hS
  split at hS
  · rename_i n1 v n2 b
    obtain ⟨⟨h1, h2⟩, hP⟩ := hS
    refine ⟨Nat.le_of_ble_eq_true rfl, ?_⟩
    refine jx_runL (o := jo_X0) (cs := cs_X0_roundedUp) (hf := jx_nh) jo_X0_ok hc_X0_roundedUp (jx_HK_nil rfl) (fun _ => false) 20 ?_
    simp only [jw, ju, jx_tg, Int.cast_ofNat_Int, Int.reduceAdd, Int.reduceToNat, Nat.reduceAdd, Nat.reduceMul, Nat.reduceBEq, Nat.reduceLeDiff, Int.reduceLE, Int.reduceLT, Int.reduceEq, Int.reduceNeg, Int.reduceSub, Int.reduceMul, not_false_eq_true, true_and, and_true, and_self, Bool.or_false, Bool.false_or, Bool.or_true, Bool.true_or, List.length_nil, List.length_cons, Nat.zero_le, or_true, true_or, Nat.le_refl, ↓reduceIte, Nat.reduceEqDiff, forall_const, false_and, and_false, false_implies, implies_true, not_true_eq_false, or_false, false_or, ne_eq, jd_X0_roundedUp, jf_X0, js_J10_floorDiv, cs_X0_roundedUp, jx_ck_c]
    exact ⟨⟨⟨by omega, by omega⟩, h2⟩, hP⟩
  · exact hS.elim
def xW (n x : Int) (M : jx_M) : Int → Int → Int := fun u v => M (x + 36) (n * u + v)
def xF36 (x : Int) (M M' : jx_M) : Prop := ∀ z k : Int, z ≠ x + 36 → M' z k = M z k
theorem xf_ix {n u v : Int} (hn : n ≤ 16) (h : xf_in n u v) : 0 ≤ n * u + v ∧ n * u + v < n * n ∧ n * n ≤ 256 := by
  have h1 : 0 ≤ n * u := Int.mul_nonneg (by unfold xf_in at h; omega) h.1.1
  have h2 : n * u + n ≤ n * n := by
    have := Int.mul_le_mul_of_nonneg_left (show u + 1 ≤ n by unfold xf_in at h; omega) (show 0 ≤ n by unfold xf_in at h; omega)
    rw [Int.mul_add, Int.mul_one] at this
    exact this
  have h3 : n * n ≤ 16 * 16 := Int.mul_le_mul hn hn (by unfold xf_in at h; omega) (by decide)
  unfold xf_in at h
  omega
theorem xf_inj {n u v u' v' : Int} (h : xf_in n u v) (h' : xf_in n u' v') (e : n * u + v = n * u' + v') : u = u' ∧ v = v' := by
  have e1 : (n * u + v) / n = u := by
    rw [Int.mul_add_ediv_left _ _ (by unfold xf_in at h; omega), Int.ediv_eq_zero_of_lt h.2.1 h.2.2]
    omega
  have e2 : (n * u' + v') / n = u' := by
    rw [Int.mul_add_ediv_left _ _ (by unfold xf_in at h; omega), Int.ediv_eq_zero_of_lt h'.2.1 h'.2.2]
    omega
  have : u = u' := by rw [← e1, ← e2, e]
  subst this
  exact ⟨rfl, by omega⟩
theorem xf_ixd {n i : Int} (hn : 0 ≤ i ∧ i < n * n) (h0 : 0 ≤ n) : ∃ u v, xf_in n u v ∧ i = n * u + v := by
  have hp : 0 < n := by
    apply Classical.byContradiction
    intro c
    have : n = 0 := by omega
    rw [this] at hn
    omega
  refine ⟨i / n, i % n, ⟨⟨Int.ediv_nonneg hn.1 h0, Int.ediv_lt_of_lt_mul hp hn.2⟩, Int.emod_nonneg _ (by omega), Int.emod_lt_of_pos _ hp⟩, (Int.mul_ediv_add_emod i n).symm⟩
theorem xW_u {n x u v w u' v' : Int} {M : jx_M} (h : xf_in n u v) (h' : xf_in n u' v') : xW n x (jx_u M (x + 36) (n * u + v) w) u' v' = if u' = u ∧ v' = v then w else xW n x M u' v' := by
  unfold xW
  by_cases c : u' = u ∧ v' = v
  · rw [if_pos c, c.1, c.2, jx_u_eq]
  · rw [if_neg c, jx_u_j _ _ _ _ _ _ (fun e => c (xf_inj h' h e))]
/-- what an edge asks for -/
noncomputable def xf_wt (b s : Int) (T : Int → Int) : Int → Int → Int → Int → Int := if s = 0 then mm_wt b else mm_ws b T
def xf_E (E : mm_E) : Prop := ∀ a b t d, E a b t d → (0 ≤ a ∧ a < 16) ∧ (0 ≤ b ∧ b < 16) ∧ (-50 ≤ t ∧ t ≤ 50) ∧ (0 ≤ d ∧ d ≤ 4)
def js_X0_findWays : jx_Sp := fun as g M Po => match as with
  | [(60, _, x), (0, _, n), (0, _, b), (0, _, s)] => ∃ E : mm_E, ((0 ≤ n ∧ n ≤ 16) ∧ (1 ≤ b ∧ b ≤ 60) ∧ (s = 0 ∨ s = 1) ∧ (0 ≤ M x 23 ∧ M x 23 ≤ 900) ∧ mm_EO E (M (x + 26)) (M (x + 27)) (M (x + 28)) (M (x + 29)) (M x 23) ∧ xf_E E ∧ (s = 1 → ∀ v, 0 ≤ v → v < n → 0 ≤ M (x + 33) v ∧ M (x + 33) v < b)) ∧
      ∀ (r : Int) (M' : jx_M), xF36 x M M' → (r = 1 ∧ xf_I n n E (xf_wt b s (M (x + 33))) (xW n x M') ∨ r = 0 ∧ ¬ ∃ f, mm_SolE n E (xf_wt b s (M (x + 33))) f) → Po (0, 0, r) g M'
  | _ => False
def cs_X0_findWays : jx_Cs := [(310, 2, 0, 0, js_X0_roundedUp), (319, 2, 0, 0, js_J10_max)]
theorem hc_X0_findWays {D : jx_D} {l : Launch} : jx_CsOK D l "LoopLane" 3 cs_X0_findWays := List.forall_mem_cons.mpr ⟨jc_X0_103 (jt_X0_roundedUp l) (fun as g M Po (h : js_X0_roundedUp as g M Po) => by unfold js_X0_roundedUp at h; split at h <;> first | exact h.elim | exact rfl) (by decide), List.forall_mem_cons.mpr ⟨jx_CS_max q910, fun _ h => absurd h List.not_mem_nil⟩⟩
set_option maxHeartbeats 4000000 in
theorem jt_X0_findWays (l : Launch) : jx_Ct l yX0_findWays (ws_ yX0_findWays cX0_findWays 8 (some .boolean)) 3 0 0 js_X0_findWays := by
  refine jx_Ct_c (rc := 4) (by decide) rfl (fun D as g M Po hS => ?_)
  unfold js_X0_findWays at hS
  split at hS
  · rename_i n1 x n2 n n3 b n4 s
    obtain ⟨E, ⟨hn, hb, hs, he, hE, hE2, hT⟩, hP⟩ := hS
    refine ⟨Nat.le_of_ble_eq_true rfl, ?_⟩
    have hE0 : ∀ a b t d, E a b t d → 0 ≤ a ∧ 0 ≤ b := fun a b t d h => ⟨(hE2 a b t d h).1.1, (hE2 a b t d h).2.1.1⟩
    have fr : ∀ M', xF36 x M M' → M' x 23 = M x 23 ∧ M' (x + 26) = M (x + 26) ∧ M' (x + 27) = M (x + 27) ∧ M' (x + 28) = M (x + 28) ∧ M' (x + 29) = M (x + 29) ∧ M' (x + 33) = M (x + 33) := fun M' h => ⟨h _ _ (by omega), funext fun k => h _ _ (by omega), funext fun k => h _ _ (by omega), funext fun k => h _ _ (by omega), funext fun k => h _ _ (by omega), funext fun k => h _ _ (by omega)⟩
    have fu : ∀ M' i w, xF36 x M M' → xF36 x M (jx_u M' (x + 36) i w) := fun M' i w h z k hz => by rw [jx_u_a _ _ _ _ _ _ hz]; exact h z k hz
    obtain ⟨wt, hwt⟩ : ∃ w, w = xf_wt b s (M (x + 33)) := ⟨_, rfl⟩
    rw [← hwt] at hP
    -- the end: no ring above 0
    have fin : ∀ (f u : Nat) (M' : jx_M) (P5 P6 P7 : jx_A), (u : Int) + f = n → xF36 x M M' → xf_I n n E wt (xW n x M') → jx_V D l (yX0_findWays.cls, cX0_findWays, 8, 4, [], 3, 0, 0, yX0_findWays.name) Po 315 [(60, n1, x), (0, n2, n), (0, n3, b), (0, n4, s), (0, 0, (u : Int)), P5, P6, P7] [] (0, 0) g (M') := by
      intro f
      induction f with
      | zero =>
        intro u M' P5 P6 P7 hu k1 k2
        refine jx_runL (o := jo_X0) (cs := cs_X0_findWays) (hf := jx_nh) jo_X0_ok hc_X0_findWays (jx_HK_nil rfl) (fun p => p == 315) 20 ?_
        simp only [jw, ju, jx_tg, Int.cast_ofNat_Int, Int.reduceAdd, Int.reduceToNat, Nat.reduceAdd, Nat.reduceMul, Nat.reduceBEq, Nat.reduceLeDiff, Int.reduceLE, Int.reduceLT, Int.reduceEq, Int.reduceNeg, Int.reduceSub, Int.reduceMul, not_false_eq_true, true_and, and_true, and_self, Bool.or_false, Bool.false_or, Bool.or_true, Bool.true_or, List.length_nil, List.length_cons, Nat.zero_le, or_true, true_or, Nat.le_refl, ↓reduceIte, Nat.reduceEqDiff, forall_const, false_and, and_false, false_implies, implies_true, not_true_eq_false, or_false, false_or, ne_eq, jd_X0_findWays, jd_X0_findWays_1, jf_X0, js_J10_max, js_X0_roundedUp, cs_X0_findWays, jx_ck_c]
        exact ⟨by omega, fun c => hP 1 M' k1 (.inl ⟨rfl, k2⟩), fun c => by omega⟩
      | succ f ih =>
        intro u M' P5 P6 P7 hu k1 k2
        have q : xf_in n u u := ⟨⟨by omega, by omega⟩, by omega, by omega⟩
        have ix := xf_ix hn.2 q
        have hd := xf_diag k2 (v := u) ⟨by omega, by omega⟩
        have hl := (k2.1 u u q).1
        unfold xW at hd hl
        refine jx_runL (o := jo_X0) (cs := cs_X0_findWays) (hf := jx_nh) jo_X0_ok hc_X0_findWays (jx_HK_nil rfl) (fun p => p == 315) 30 ?_
        simp only [jw, ju, jx_tg, Int.cast_ofNat_Int, Int.reduceAdd, Int.reduceToNat, Nat.reduceAdd, Nat.reduceMul, Nat.reduceBEq, Nat.reduceLeDiff, Int.reduceLE, Int.reduceLT, Int.reduceEq, Int.reduceNeg, Int.reduceSub, Int.reduceMul, not_false_eq_true, true_and, and_true, and_self, Bool.or_false, Bool.false_or, Bool.or_true, Bool.true_or, List.length_nil, List.length_cons, Nat.zero_le, or_true, true_or, Nat.le_refl, ↓reduceIte, Nat.reduceEqDiff, forall_const, false_and, and_false, false_implies, implies_true, not_true_eq_false, or_false, false_or, ne_eq, jd_X0_findWays, jd_X0_findWays_1, jf_X0, js_J10_max, js_X0_roundedUp, cs_X0_findWays, jx_ck_c]
        refine ⟨by omega, fun c => by omega, fun c => ⟨by omega, ⟨by omega, by omega⟩, fun c2 => ?_, fun c2 => by omega⟩⟩
        have := ih (u + 1) M' P5 P6 P7 (by omega) k1 k2
        rw [show (((u + 1 : Nat) : Int)) = (u : Int) + 1 by omega] at this
        exact this
    have hpw : ∀ m : Nat, (m : Int) ≤ n → (0 : Int) < 120 * 2 ^ m ∧ (120 : Int) * 2 ^ m ≤ 7864320 := fun m hm => by
      have h1 : (0 : Int) < 2 ^ m := Int.pow_pos (by decide)
      have h2 : (2 : Int) ^ m ≤ 2 ^ 16 := by
        have : m ≤ 16 := by omega
        have := Nat.pow_le_pow_right (show 0 < 2 by decide) this
        exact_mod_cast this
      have h3 : (2 : Int) ^ 16 = 65536 := by decide
      omega
    have phase : ∀ (f m : Nat) (M' : jx_M) (P5 P6 P7 : jx_A), (m : Int) + f = n → xF36 x M M' → xf_I n m E wt (xW n x M') → jx_V D l (yX0_findWays.cls, cX0_findWays, 8, 4, [], 3, 0, 0, yX0_findWays.name) Po 167 [(60, n1, x), (0, n2, n), (0, n3, b), (0, n4, s), (0, 0, (m : Int)), P5, P6, P7] [] (0, 0) g (M') := by
      intro f
      induction f with
      | zero =>
        intro m M' P5 P6 P7 hm k1 k2
        refine jx_runL (o := jo_X0) (cs := cs_X0_findWays) (hf := jx_nh) jo_X0_ok hc_X0_findWays (jx_HK_nil rfl) (fun p => p == 315) 20 ?_
        simp only [jw, ju, jx_tg, Int.cast_ofNat_Int, Int.reduceAdd, Int.reduceToNat, Nat.reduceAdd, Nat.reduceMul, Nat.reduceBEq, Nat.reduceLeDiff, Int.reduceLE, Int.reduceLT, Int.reduceEq, Int.reduceNeg, Int.reduceSub, Int.reduceMul, not_false_eq_true, true_and, and_true, and_self, Bool.or_false, Bool.false_or, Bool.or_true, Bool.true_or, List.length_nil, List.length_cons, Nat.zero_le, or_true, true_or, Nat.le_refl, ↓reduceIte, Nat.reduceEqDiff, forall_const, false_and, and_false, false_implies, implies_true, not_true_eq_false, or_false, false_or, ne_eq, jd_X0_findWays, jd_X0_findWays_1, jf_X0, js_J10_max, js_X0_roundedUp, cs_X0_findWays, jx_ck_c]
        refine ⟨by omega, fun c => ?_, fun c => by omega⟩
        rw [show (m : Int) = n by omega] at k2
        exact fin n.toNat 0 M' _ _ _ (by omega) k1 k2
      | succ f ih =>
        intro m M0 P5 P6 P7 hm k0 i0
        obtain ⟨hC0, hC1⟩ := hpw m (by omega)
        obtain ⟨C, hC⟩ : ∃ C : Int, C = 120 * 2 ^ m := ⟨_, rfl⟩
        have i0r : ∀ u v, xf_in n u v → -1000000 ≤ xW n x M0 u v ∧ xW n x M0 u v ≤ C := fun u v q => by
          have := i0.1 u v q
          rw [show (m : Int).toNat = m by omega] at this
          rw [hC]
          exact this
        have hmn : 0 ≤ (m : Int) ∧ (m : Int) < n := by omega
        have qm : xf_in n m m := ⟨hmn, hmn⟩
        have ixm := xf_ix hn.2 qm
        by_cases hd : xW n x M0 m m ≤ 0
        · -- in place as if aside
          have after : ∀ (M' : jx_M) (P5 P6 P7 : jx_A), xF36 x M M' → xf_mid n m n 0 (xW n x M0) (xW n x M') → jx_V D l (yX0_findWays.cls, cX0_findWays, 8, 4, [], 3, 0, 0, yX0_findWays.name) Po 289 [(60, n1, x), (0, n2, n), (0, n3, b), (0, n4, s), (0, 0, (m : Int)), P5, P6, P7] [] (0, 0) g (M') := by
            intro M' P5 P6 P7 k1 k2
            have e := xf_mid_n k2
            have ip := xf_I_c (W' := xW n x M') (by omega) hE0 e (xf_I_ph hmn hn.2 hE0 i0 hd)
            have em : xW n x M' m m ≤ 0 := by rw [e m m qm, mm_ph_row hd]; exact hd
            have el := (ip.1 m m qm).1
            unfold xW at em el
            refine jx_runL (o := jo_X0) (cs := cs_X0_findWays) (hf := jx_nh) jo_X0_ok hc_X0_findWays (jx_HK_nil rfl) (fun p => p == 167) 30 ?_
            simp only [jw, ju, jx_tg, Int.cast_ofNat_Int, Int.reduceAdd, Int.reduceToNat, Nat.reduceAdd, Nat.reduceMul, Nat.reduceBEq, Nat.reduceLeDiff, Int.reduceLE, Int.reduceLT, Int.reduceEq, Int.reduceNeg, Int.reduceSub, Int.reduceMul, not_false_eq_true, true_and, and_true, and_self, Bool.or_false, Bool.false_or, Bool.or_true, Bool.true_or, List.length_nil, List.length_cons, Nat.zero_le, or_true, true_or, Nat.le_refl, ↓reduceIte, Nat.reduceEqDiff, forall_const, false_and, and_false, false_implies, implies_true, not_true_eq_false, or_false, false_or, ne_eq, jd_X0_findWays, jd_X0_findWays_1, jf_X0, js_J10_max, js_X0_roundedUp, cs_X0_findWays, jx_ck_c]
            refine ⟨by omega, ⟨by omega, by omega⟩, fun c2 => ?_, fun c2 => by omega⟩
            have := ih (m + 1) M' P5 P6 P7 (by omega) k1 (by rw [show (((m + 1 : Nat) : Int)) = (m : Int) + 1 by omega]; exact ip)
            rw [show (((m + 1 : Nat) : Int)) = (m : Int) + 1 by omega] at this
            exact this
          have rng : ∀ (M' : jx_M) (u0 v0 u v : Int), xf_mid n m u0 v0 (xW n x M0) (xW n x M') → xf_in n u v → -1000000 ≤ xW n x M' u v ∧ xW n x M' u v ≤ 2 * C := fun M' u0 v0 u v k q => by
            have k := k u v q
            have r1 := i0r u v q
            have r2 := i0r u m ⟨q.1, hmn⟩
            have r3 := i0r m v ⟨hmn, q.2⟩
            by_cases c : xf_lt u v u0 v0
            · rw [k.1 c]
              by_cases c2 : mm_has (xW n x M0) u m ∧ mm_has (xW n x M0) m v
              · rw [mm_ph_pos c2]; omega
              · rw [mm_ph_neg c2]; omega
            · rw [k.2 c]; omega
          have us : ∀ (f u : Nat) (M' : jx_M) (P6 P7 : jx_A), (u : Int) + f = n → xF36 x M M' → xf_mid n m u 0 (xW n x M0) (xW n x M') → jx_V D l (yX0_findWays.cls, cX0_findWays, 8, 4, [], 3, 0, 0, yX0_findWays.name) Po 176 [(60, n1, x), (0, n2, n), (0, n3, b), (0, n4, s), (0, 0, (m : Int)), (0, 0, (u : Int)), P6, P7] [] (0, 0) g (M') := by
            intro f
            induction f with
            | zero =>
              intro u M' P6 P7 hu k1 k2
              refine jx_runL (o := jo_X0) (cs := cs_X0_findWays) (hf := jx_nh) jo_X0_ok hc_X0_findWays (jx_HK_nil rfl) (fun p => p == 289) 20 ?_
              simp only [jw, ju, jx_tg, Int.cast_ofNat_Int, Int.reduceAdd, Int.reduceToNat, Nat.reduceAdd, Nat.reduceMul, Nat.reduceBEq, Nat.reduceLeDiff, Int.reduceLE, Int.reduceLT, Int.reduceEq, Int.reduceNeg, Int.reduceSub, Int.reduceMul, not_false_eq_true, true_and, and_true, and_self, Bool.or_false, Bool.false_or, Bool.or_true, Bool.true_or, List.length_nil, List.length_cons, Nat.zero_le, or_true, true_or, Nat.le_refl, ↓reduceIte, Nat.reduceEqDiff, forall_const, false_and, and_false, false_implies, implies_true, not_true_eq_false, or_false, false_or, ne_eq, jd_X0_findWays, jd_X0_findWays_1, jf_X0, js_J10_max, js_X0_roundedUp, cs_X0_findWays, jx_ck_c]
              refine ⟨by omega, fun c => ?_, fun c => by omega⟩
              rw [show (u : Int) = n by omega] at k2
              exact after M' _ _ _ k1 k2
            | succ f iu =>
              intro u M' P6 P7 hu k1 k2
              have hun : 0 ≤ (u : Int) ∧ (u : Int) < n := by omega
              have nxt : ∀ (M' : jx_M) (v : Int) (P7 : jx_A), xF36 x M M' → xf_mid n m u v (xW n x M0) (xW n x M') → (v = n ∨ ¬ mm_has (xW n x M') u m) → jx_V D l (yX0_findWays.cls, cX0_findWays, 8, 4, [], 3, 0, 0, yX0_findWays.name) Po 283 [(60, n1, x), (0, n2, n), (0, n3, b), (0, n4, s), (0, 0, (m : Int)), (0, 0, (u : Int)), (0, 0, v), P7] [] (0, 0) g (M') := by
                intro M' v P7 k1 k2 k3
                refine jx_runL (o := jo_X0) (cs := cs_X0_findWays) (hf := jx_nh) jo_X0_ok hc_X0_findWays (jx_HK_nil rfl) (fun p => p == 176) 20 ?_
                simp only [jw, ju, jx_tg, Int.cast_ofNat_Int, Int.reduceAdd, Int.reduceToNat, Nat.reduceAdd, Nat.reduceMul, Nat.reduceBEq, Nat.reduceLeDiff, Int.reduceLE, Int.reduceLT, Int.reduceEq, Int.reduceNeg, Int.reduceSub, Int.reduceMul, not_false_eq_true, true_and, and_true, and_self, Bool.or_false, Bool.false_or, Bool.or_true, Bool.true_or, List.length_nil, List.length_cons, Nat.zero_le, or_true, true_or, Nat.le_refl, ↓reduceIte, Nat.reduceEqDiff, forall_const, false_and, and_false, false_implies, implies_true, not_true_eq_false, or_false, false_or, ne_eq, jd_X0_findWays, jd_X0_findWays_1, jf_X0, js_J10_max, js_X0_roundedUp, cs_X0_findWays, jx_ck_c]
                have := iu (u + 1) M' (0, 0, v) P7 (by omega) k1 (by rw [show (((u + 1 : Nat) : Int)) = (u : Int) + 1 by omega]; exact xf_mid_r hd hmn hun k2 k3)
                rw [show (((u + 1 : Nat) : Int)) = (u : Int) + 1 by omega] at this
                exact this
              have vs : ∀ (f v : Nat) (M' : jx_M) (P7 : jx_A), (v : Int) + f = n → xF36 x M M' → xf_mid n m u v (xW n x M0) (xW n x M') → jx_V D l (yX0_findWays.cls, cX0_findWays, 8, 4, [], 3, 0, 0, yX0_findWays.name) Po 185 [(60, n1, x), (0, n2, n), (0, n3, b), (0, n4, s), (0, 0, (m : Int)), (0, 0, (u : Int)), (0, 0, (v : Int)), P7] [] (0, 0) g (M') := by
                intro f
                induction f with
                | zero =>
                  intro v M' P7 hv k1 k2
                  refine jx_runL (o := jo_X0) (cs := cs_X0_findWays) (hf := jx_nh) jo_X0_ok hc_X0_findWays (jx_HK_nil rfl) (fun p => p == 283) 20 ?_
                  simp only [jw, ju, jx_tg, Int.cast_ofNat_Int, Int.reduceAdd, Int.reduceToNat, Nat.reduceAdd, Nat.reduceMul, Nat.reduceBEq, Nat.reduceLeDiff, Int.reduceLE, Int.reduceLT, Int.reduceEq, Int.reduceNeg, Int.reduceSub, Int.reduceMul, not_false_eq_true, true_and, and_true, and_self, Bool.or_false, Bool.false_or, Bool.or_true, Bool.true_or, List.length_nil, List.length_cons, Nat.zero_le, or_true, true_or, Nat.le_refl, ↓reduceIte, Nat.reduceEqDiff, forall_const, false_and, and_false, false_implies, implies_true, not_true_eq_false, or_false, false_or, ne_eq, jd_X0_findWays, jd_X0_findWays_1, jf_X0, js_J10_max, js_X0_roundedUp, cs_X0_findWays, jx_ck_c]
                  exact ⟨by omega, fun c => nxt M' v P7 k1 k2 (.inl (by omega)), fun c => by omega⟩
                | succ f iv =>
                  intro v M' P7 hv k1 k2
                  have hvn : 0 ≤ (v : Int) ∧ (v : Int) < n := by omega
                  have quv : xf_in n u v := ⟨hun, hvn⟩
                  have qum : xf_in n u m := ⟨hun, hmn⟩
                  have qmv : xf_in n m v := ⟨hmn, hvn⟩
                  have ix1 := xf_ix hn.2 quv
                  have ix2 := xf_ix hn.2 qum
                  have ix3 := xf_ix hn.2 qmv
                  have r1 := rng M' _ _ _ _ k2 quv
                  have r2 := rng M' _ _ _ _ k2 qum
                  have r3 := rng M' _ _ _ _ k2 qmv
                  unfold xW at r1 r2 r3
                  have at277 : ∀ M'' : jx_M, xF36 x M M'' → xf_mid n m u ((v : Int) + 1) (xW n x M0) (xW n x M'') → jx_V D l (yX0_findWays.cls, cX0_findWays, 8, 4, [], 3, 0, 0, yX0_findWays.name) Po 277 [(60, n1, x), (0, n2, n), (0, n3, b), (0, n4, s), (0, 0, (m : Int)), (0, 0, (u : Int)), (0, 0, (v : Int)), P7] [] (0, 0) g (M'') := by
                    intro M'' j1 j2
                    refine jx_runL (o := jo_X0) (cs := cs_X0_findWays) (hf := jx_nh) jo_X0_ok hc_X0_findWays (jx_HK_nil rfl) (fun p => p == 185) 20 ?_
                    simp only [jw, ju, jx_tg, Int.cast_ofNat_Int, Int.reduceAdd, Int.reduceToNat, Nat.reduceAdd, Nat.reduceMul, Nat.reduceBEq, Nat.reduceLeDiff, Int.reduceLE, Int.reduceLT, Int.reduceEq, Int.reduceNeg, Int.reduceSub, Int.reduceMul, not_false_eq_true, true_and, and_true, and_self, Bool.or_false, Bool.false_or, Bool.or_true, Bool.true_or, List.length_nil, List.length_cons, Nat.zero_le, or_true, true_or, Nat.le_refl, ↓reduceIte, Nat.reduceEqDiff, forall_const, false_and, and_false, false_implies, implies_true, not_true_eq_false, or_false, false_or, ne_eq, jd_X0_findWays, jd_X0_findWays_1, jf_X0, js_J10_max, js_X0_roundedUp, cs_X0_findWays, jx_ck_c]
                    have := iv (v + 1) M'' P7 (by omega) j1 (by rw [show (((v + 1 : Nat) : Int)) = (v : Int) + 1 by omega]; exact j2)
                    rw [show (((v + 1 : Nat) : Int)) = (v : Int) + 1 by omega] at this
                    exact this
                  refine jx_runL (o := jo_X0) (cs := cs_X0_findWays) (hf := jx_nh) jo_X0_ok hc_X0_findWays (jx_HK_nil rfl) (fun p => p == 185 || p == 277 || p == 283) 60 ?_
                  simp only [jw, ju, jx_tg, Int.cast_ofNat_Int, Int.reduceAdd, Int.reduceToNat, Nat.reduceAdd, Nat.reduceMul, Nat.reduceBEq, Nat.reduceLeDiff, Int.reduceLE, Int.reduceLT, Int.reduceEq, Int.reduceNeg, Int.reduceSub, Int.reduceMul, not_false_eq_true, true_and, and_true, and_self, Bool.or_false, Bool.false_or, Bool.or_true, Bool.true_or, List.length_nil, List.length_cons, Nat.zero_le, or_true, true_or, Nat.le_refl, ↓reduceIte, Nat.reduceEqDiff, forall_const, false_and, and_false, false_implies, implies_true, not_true_eq_false, or_false, false_or, ne_eq, jd_X0_findWays, jd_X0_findWays_1, jf_X0, js_J10_max, js_X0_roundedUp, cs_X0_findWays, jx_ck_c]
                  refine ⟨by omega, fun c => by omega, fun c => ⟨by omega, ⟨by omega, by omega⟩, fun c2 => nxt M' v P7 k1 k2 (.inr (by unfold mm_has xW; omega)), fun c2 => ⟨by omega, ⟨by omega, by omega⟩, fun c3 => at277 M' k1 (xf_mid_k hd hmn hun hvn k2 (by unfold mm_has xW; omega)), fun c3 => ⟨by omega, by omega, by omega, ⟨⟨by omega, by omega⟩, by omega, by omega⟩, by omega, at277 _ (fu _ _ _ k1) (xf_mid_s hd hmn hun hvn k2 (by unfold mm_has xW; omega) (by unfold mm_has xW; omega) ?_ (fun u' v' q z => ?_))⟩⟩⟩⟩
                  · rw [xW_u quv quv, if_pos ⟨rfl, rfl⟩]
                    rfl
                  · rw [xW_u quv q, if_neg z]
              refine jx_runL (o := jo_X0) (cs := cs_X0_findWays) (hf := jx_nh) jo_X0_ok hc_X0_findWays (jx_HK_nil rfl) (fun p => p == 185) 20 ?_
              simp only [jw, ju, jx_tg, Int.cast_ofNat_Int, Int.reduceAdd, Int.reduceToNat, Nat.reduceAdd, Nat.reduceMul, Nat.reduceBEq, Nat.reduceLeDiff, Int.reduceLE, Int.reduceLT, Int.reduceEq, Int.reduceNeg, Int.reduceSub, Int.reduceMul, not_false_eq_true, true_and, and_true, and_self, Bool.or_false, Bool.false_or, Bool.or_true, Bool.true_or, List.length_nil, List.length_cons, Nat.zero_le, or_true, true_or, Nat.le_refl, ↓reduceIte, Nat.reduceEqDiff, forall_const, false_and, and_false, false_implies, implies_true, not_true_eq_false, or_false, false_or, ne_eq, jd_X0_findWays, jd_X0_findWays_1, jf_X0, js_J10_max, js_X0_roundedUp, cs_X0_findWays, jx_ck_c]
              exact ⟨by omega, fun c => by omega, fun c => vs n.toNat 0 M' _ (by omega) k1 k2⟩
          refine jx_runL (o := jo_X0) (cs := cs_X0_findWays) (hf := jx_nh) jo_X0_ok hc_X0_findWays (jx_HK_nil rfl) (fun p => p == 176) 20 ?_
          simp only [jw, ju, jx_tg, Int.cast_ofNat_Int, Int.reduceAdd, Int.reduceToNat, Nat.reduceAdd, Nat.reduceMul, Nat.reduceBEq, Nat.reduceLeDiff, Int.reduceLE, Int.reduceLT, Int.reduceEq, Int.reduceNeg, Int.reduceSub, Int.reduceMul, not_false_eq_true, true_and, and_true, and_self, Bool.or_false, Bool.false_or, Bool.or_true, Bool.true_or, List.length_nil, List.length_cons, Nat.zero_le, or_true, true_or, Nat.le_refl, ↓reduceIte, Nat.reduceEqDiff, forall_const, false_and, and_false, false_implies, implies_true, not_true_eq_false, or_false, false_or, ne_eq, jd_X0_findWays, jd_X0_findWays_1, jf_X0, js_J10_max, js_X0_roundedUp, cs_X0_findWays, jx_ck_c]
          exact ⟨by omega, fun c => by omega, fun c => us n.toNat 0 M0 _ _ (by omega) k0 xf_mid_0⟩
        · -- a ring above 0
          have nos : ¬ ∃ f, mm_SolE n E wt f := xf_no i0 hmn (by omega)
          have rng : ∀ (M' : jx_M) (u0 v0 u v : Int), xf_pos n m C u0 v0 (xW n x M') → xf_in n u v → -1000000 ≤ xW n x M' u v ∧ xW n x M' u v ≤ 6 * C := fun M' u0 v0 u v k q => by
            have := k.1 u v q
            have := (xf_b_r (m := m) (C := C) (u0 := u0) (v0 := v0) (u := u) (v := v) (by omega)).2
            omega
          have us : ∀ (f u : Nat) (M' : jx_M) (P6 P7 : jx_A), (u : Int) + f = n → xF36 x M M' → xf_pos n m C u 0 (xW n x M') → jx_V D l (yX0_findWays.cls, cX0_findWays, 8, 4, [], 3, 0, 0, yX0_findWays.name) Po 176 [(60, n1, x), (0, n2, n), (0, n3, b), (0, n4, s), (0, 0, (m : Int)), (0, 0, (u : Int)), P6, P7] [] (0, 0) g (M') := by
            intro f
            induction f with
            | zero =>
              intro u M' P6 P7 hu k1 k2
              have kp := k2.2
              have kr := rng M' _ _ _ _ k2 qm
              unfold xW at kp kr
              refine jx_runL (o := jo_X0) (cs := cs_X0_findWays) (hf := jx_nh) jo_X0_ok hc_X0_findWays (jx_HK_nil rfl) (fun _ => false) 40 ?_
              simp only [jw, ju, jx_tg, Int.cast_ofNat_Int, Int.reduceAdd, Int.reduceToNat, Nat.reduceAdd, Nat.reduceMul, Nat.reduceBEq, Nat.reduceLeDiff, Int.reduceLE, Int.reduceLT, Int.reduceEq, Int.reduceNeg, Int.reduceSub, Int.reduceMul, not_false_eq_true, true_and, and_true, and_self, Bool.or_false, Bool.false_or, Bool.or_true, Bool.true_or, List.length_nil, List.length_cons, Nat.zero_le, or_true, true_or, Nat.le_refl, ↓reduceIte, Nat.reduceEqDiff, forall_const, false_and, and_false, false_implies, implies_true, not_true_eq_false, or_false, false_or, ne_eq, jd_X0_findWays, jd_X0_findWays_1, jf_X0, js_J10_max, js_X0_roundedUp, cs_X0_findWays, jx_ck_c]
              exact ⟨by omega, fun c => ⟨by omega, ⟨by omega, by omega⟩, fun c2 => by omega, fun c2 => hP 0 M' k1 (.inr ⟨rfl, nos⟩)⟩, fun c => by omega⟩
            | succ f iu =>
              intro u M' P6 P7 hu k1 k2
              have hun : 0 ≤ (u : Int) ∧ (u : Int) < n := by omega
              have nxt : ∀ (M' : jx_M) (v : Int) (P7 : jx_A), xF36 x M M' → xf_pos n m C u v (xW n x M') → jx_V D l (yX0_findWays.cls, cX0_findWays, 8, 4, [], 3, 0, 0, yX0_findWays.name) Po 283 [(60, n1, x), (0, n2, n), (0, n3, b), (0, n4, s), (0, 0, (m : Int)), (0, 0, (u : Int)), (0, 0, v), P7] [] (0, 0) g (M') := by
                intro M' v P7 k1 k2
                refine jx_runL (o := jo_X0) (cs := cs_X0_findWays) (hf := jx_nh) jo_X0_ok hc_X0_findWays (jx_HK_nil rfl) (fun p => p == 176) 20 ?_
                simp only [jw, ju, jx_tg, Int.cast_ofNat_Int, Int.reduceAdd, Int.reduceToNat, Nat.reduceAdd, Nat.reduceMul, Nat.reduceBEq, Nat.reduceLeDiff, Int.reduceLE, Int.reduceLT, Int.reduceEq, Int.reduceNeg, Int.reduceSub, Int.reduceMul, not_false_eq_true, true_and, and_true, and_self, Bool.or_false, Bool.false_or, Bool.or_true, Bool.true_or, List.length_nil, List.length_cons, Nat.zero_le, or_true, true_or, Nat.le_refl, ↓reduceIte, Nat.reduceEqDiff, forall_const, false_and, and_false, false_implies, implies_true, not_true_eq_false, or_false, false_or, ne_eq, jd_X0_findWays, jd_X0_findWays_1, jf_X0, js_J10_max, js_X0_roundedUp, cs_X0_findWays, jx_ck_c]
                have := iu (u + 1) M' (0, 0, v) P7 (by omega) k1 (by rw [show (((u + 1 : Nat) : Int)) = (u : Int) + 1 by omega]; exact xf_pos_k (by omega) k2 (fun u' v' q z => by unfold xf_lt at *; omega))
                rw [show (((u + 1 : Nat) : Int)) = (u : Int) + 1 by omega] at this
                exact this
              have vs : ∀ (f v : Nat) (M' : jx_M) (P7 : jx_A), (v : Int) + f = n → xF36 x M M' → xf_pos n m C u v (xW n x M') → jx_V D l (yX0_findWays.cls, cX0_findWays, 8, 4, [], 3, 0, 0, yX0_findWays.name) Po 185 [(60, n1, x), (0, n2, n), (0, n3, b), (0, n4, s), (0, 0, (m : Int)), (0, 0, (u : Int)), (0, 0, (v : Int)), P7] [] (0, 0) g (M') := by
                intro f
                induction f with
                | zero =>
                  intro v M' P7 hv k1 k2
                  refine jx_runL (o := jo_X0) (cs := cs_X0_findWays) (hf := jx_nh) jo_X0_ok hc_X0_findWays (jx_HK_nil rfl) (fun p => p == 283) 20 ?_
                  simp only [jw, ju, jx_tg, Int.cast_ofNat_Int, Int.reduceAdd, Int.reduceToNat, Nat.reduceAdd, Nat.reduceMul, Nat.reduceBEq, Nat.reduceLeDiff, Int.reduceLE, Int.reduceLT, Int.reduceEq, Int.reduceNeg, Int.reduceSub, Int.reduceMul, not_false_eq_true, true_and, and_true, and_self, Bool.or_false, Bool.false_or, Bool.or_true, Bool.true_or, List.length_nil, List.length_cons, Nat.zero_le, or_true, true_or, Nat.le_refl, ↓reduceIte, Nat.reduceEqDiff, forall_const, false_and, and_false, false_implies, implies_true, not_true_eq_false, or_false, false_or, ne_eq, jd_X0_findWays, jd_X0_findWays_1, jf_X0, js_J10_max, js_X0_roundedUp, cs_X0_findWays, jx_ck_c]
                  exact ⟨by omega, fun c => nxt M' v P7 k1 k2, fun c => by omega⟩
                | succ f iv =>
                  intro v M' P7 hv k1 k2
                  have hvn : 0 ≤ (v : Int) ∧ (v : Int) < n := by omega
                  have quv : xf_in n u v := ⟨hun, hvn⟩
                  have qum : xf_in n u m := ⟨hun, hmn⟩
                  have qmv : xf_in n m v := ⟨hmn, hvn⟩
                  have ix1 := xf_ix hn.2 quv
                  have ix2 := xf_ix hn.2 qum
                  have ix3 := xf_ix hn.2 qmv
                  have r1 := rng M' _ _ _ _ k2 quv
                  have r2 := rng M' _ _ _ _ k2 qum
                  have r3 := rng M' _ _ _ _ k2 qmv
                  unfold xW at r1 r2 r3
                  have at277 : ∀ M'' : jx_M, xF36 x M M'' → xf_pos n m C u ((v : Int) + 1) (xW n x M'') → jx_V D l (yX0_findWays.cls, cX0_findWays, 8, 4, [], 3, 0, 0, yX0_findWays.name) Po 277 [(60, n1, x), (0, n2, n), (0, n3, b), (0, n4, s), (0, 0, (m : Int)), (0, 0, (u : Int)), (0, 0, (v : Int)), P7] [] (0, 0) g (M'') := by
                    intro M'' j1 j2
                    refine jx_runL (o := jo_X0) (cs := cs_X0_findWays) (hf := jx_nh) jo_X0_ok hc_X0_findWays (jx_HK_nil rfl) (fun p => p == 185) 20 ?_
                    simp only [jw, ju, jx_tg, Int.cast_ofNat_Int, Int.reduceAdd, Int.reduceToNat, Nat.reduceAdd, Nat.reduceMul, Nat.reduceBEq, Nat.reduceLeDiff, Int.reduceLE, Int.reduceLT, Int.reduceEq, Int.reduceNeg, Int.reduceSub, Int.reduceMul, not_false_eq_true, true_and, and_true, and_self, Bool.or_false, Bool.false_or, Bool.or_true, Bool.true_or, List.length_nil, List.length_cons, Nat.zero_le, or_true, true_or, Nat.le_refl, ↓reduceIte, Nat.reduceEqDiff, forall_const, false_and, and_false, false_implies, implies_true, not_true_eq_false, or_false, false_or, ne_eq, jd_X0_findWays, jd_X0_findWays_1, jf_X0, js_J10_max, js_X0_roundedUp, cs_X0_findWays, jx_ck_c]
                    have := iv (v + 1) M'' P7 (by omega) j1 (by rw [show (((v + 1 : Nat) : Int)) = (v : Int) + 1 by omega]; exact j2)
                    rw [show (((v + 1 : Nat) : Int)) = (v : Int) + 1 by omega] at this
                    exact this
                  refine jx_runL (o := jo_X0) (cs := cs_X0_findWays) (hf := jx_nh) jo_X0_ok hc_X0_findWays (jx_HK_nil rfl) (fun p => p == 185 || p == 277 || p == 283) 60 ?_
                  simp only [jw, ju, jx_tg, Int.cast_ofNat_Int, Int.reduceAdd, Int.reduceToNat, Nat.reduceAdd, Nat.reduceMul, Nat.reduceBEq, Nat.reduceLeDiff, Int.reduceLE, Int.reduceLT, Int.reduceEq, Int.reduceNeg, Int.reduceSub, Int.reduceMul, not_false_eq_true, true_and, and_true, and_self, Bool.or_false, Bool.false_or, Bool.or_true, Bool.true_or, List.length_nil, List.length_cons, Nat.zero_le, or_true, true_or, Nat.le_refl, ↓reduceIte, Nat.reduceEqDiff, forall_const, false_and, and_false, false_implies, implies_true, not_true_eq_false, or_false, false_or, ne_eq, jd_X0_findWays, jd_X0_findWays_1, jf_X0, js_J10_max, js_X0_roundedUp, cs_X0_findWays, jx_ck_c]
                  refine ⟨by omega, fun c => by omega, fun c => ⟨by omega, ⟨by omega, by omega⟩, fun c2 => nxt M' v P7 k1 k2, fun c2 => ⟨by omega, ⟨by omega, by omega⟩, fun c3 => at277 M' k1 (xf_pos_k (by omega) k2 (fun u' v' q z => by unfold xf_lt at *; omega)), fun c3 => ⟨by omega, by omega, by omega, ⟨⟨by omega, by omega⟩, by omega, by omega⟩, by omega, at277 _ (fu _ _ _ k1) (xf_pos_s (by omega) hmn hun hvn k2 ?_ (fun u' v' q z => ?_))⟩⟩⟩⟩
                  · rw [xW_u quv quv, if_pos ⟨rfl, rfl⟩]
                    rfl
                  · rw [xW_u quv q, if_neg z]
              refine jx_runL (o := jo_X0) (cs := cs_X0_findWays) (hf := jx_nh) jo_X0_ok hc_X0_findWays (jx_HK_nil rfl) (fun p => p == 185) 20 ?_
              simp only [jw, ju, jx_tg, Int.cast_ofNat_Int, Int.reduceAdd, Int.reduceToNat, Nat.reduceAdd, Nat.reduceMul, Nat.reduceBEq, Nat.reduceLeDiff, Int.reduceLE, Int.reduceLT, Int.reduceEq, Int.reduceNeg, Int.reduceSub, Int.reduceMul, not_false_eq_true, true_and, and_true, and_self, Bool.or_false, Bool.false_or, Bool.or_true, Bool.true_or, List.length_nil, List.length_cons, Nat.zero_le, or_true, true_or, Nat.le_refl, ↓reduceIte, Nat.reduceEqDiff, forall_const, false_and, and_false, false_implies, implies_true, not_true_eq_false, or_false, false_or, ne_eq, jd_X0_findWays, jd_X0_findWays_1, jf_X0, js_J10_max, js_X0_roundedUp, cs_X0_findWays, jx_ck_c]
              exact ⟨by omega, fun c => by omega, fun c => vs n.toNat 0 M' _ (by omega) k1 k2⟩
          refine jx_runL (o := jo_X0) (cs := cs_X0_findWays) (hf := jx_nh) jo_X0_ok hc_X0_findWays (jx_HK_nil rfl) (fun p => p == 176) 20 ?_
          simp only [jw, ju, jx_tg, Int.cast_ofNat_Int, Int.reduceAdd, Int.reduceToNat, Nat.reduceAdd, Nat.reduceMul, Nat.reduceBEq, Nat.reduceLeDiff, Int.reduceLE, Int.reduceLT, Int.reduceEq, Int.reduceNeg, Int.reduceSub, Int.reduceMul, not_false_eq_true, true_and, and_true, and_self, Bool.or_false, Bool.false_or, Bool.or_true, Bool.true_or, List.length_nil, List.length_cons, Nat.zero_le, or_true, true_or, Nat.le_refl, ↓reduceIte, Nat.reduceEqDiff, forall_const, false_and, and_false, false_implies, implies_true, not_true_eq_false, or_false, false_or, ne_eq, jd_X0_findWays, jd_X0_findWays_1, jf_X0, js_J10_max, js_X0_roundedUp, cs_X0_findWays, jx_ck_c]
          refine ⟨by omega, fun c => by omega, fun c => us n.toNat 0 M0 _ _ (by omega) k0 ⟨fun u v q => ?_, by omega⟩⟩
          have := i0r u v q
          rw [show xf_b m C ((0 : Nat) : Int) 0 u v = C from if_neg (by unfold xf_lt; unfold xf_in at q; omega)]
          exact this
    -- edges
    have wr : ∀ e, 0 ≤ e → e < M x 23 → M (x + 26) e < n → M (x + 27) e < n → -400 ≤ wt (M (x + 26) e) (M (x + 27) e) (M (x + 28) e) (M (x + 29) e) ∧ wt (M (x + 26) e) (M (x + 27) e) (M (x + 28) e) (M (x + 29) e) ≤ 120 := by
      intro e e0 e1 ea eb
      obtain ⟨q1, q2, q3, q4⟩ := hE2 _ _ _ _ (hE.1 e e0 e1)
      rw [hwt]
      unfold xf_wt
      split
      · unfold mm_wt
        have : 0 ≤ b * M (x + 29) e := Int.mul_nonneg (by omega) (by omega)
        have : b * M (x + 29) e ≤ 60 * 4 := Int.mul_le_mul (by omega) (by omega) (by omega) (by omega)
        omega
      · have s1 : s = 1 := by omega
        have t1 := hT s1 _ q1.1 ea
        have t2 := hT s1 _ q2.1 eb
        unfold mm_ws
        obtain ⟨v, hv⟩ : ∃ v, v = M (x + 33) (M (x + 27) e) - M (x + 33) (M (x + 26) e) - M (x + 28) e := ⟨_, rfl⟩
        rw [← hv]
        have d1 : v / b ≤ 110 := by
          apply Int.le_of_lt_add_one
          refine Int.ediv_lt_of_lt_mul (by omega) ?_
          have : (110 + 1) * 1 ≤ (110 + 1) * b := Int.mul_le_mul_of_nonneg_left (by omega) (by decide)
          omega
        have d2 : -110 ≤ v / b := by
          refine (Int.le_ediv_iff_mul_le (by omega)).mpr ?_
          have : 110 * 1 ≤ 110 * b := Int.mul_le_mul_of_nonneg_left (by omega) (by decide)
          have : -110 * b = -(110 * b) := Int.neg_mul _ _
          omega
        omega
    have edge : ∀ (f e : Nat) (M' : jx_M) (P5 P6 P7 : jx_A), (e : Int) + f = M x 23 → xF36 x M M' → (∀ u v, xf_in n u v → -1000000 ≤ xW n x M' u v ∧ xW n x M' u v ≤ 120 ∧ (mm_has (xW n x M') u v → ∃ i, 0 ≤ i ∧ i < (e : Int) ∧ M (x + 26) i = u ∧ M (x + 27) i = v ∧ xW n x M' u v = wt (M (x + 26) i) (M (x + 27) i) (M (x + 28) i) (M (x + 29) i))) → (∀ i, 0 ≤ i → i < (e : Int) → M (x + 26) i < n → M (x + 27) i < n → wt (M (x + 26) i) (M (x + 27) i) (M (x + 28) i) (M (x + 29) i) ≤ xW n x M' (M (x + 26) i) (M (x + 27) i)) → jx_V D l (yX0_findWays.cls, cX0_findWays, 8, 4, [], 3, 0, 0, yX0_findWays.name) Po 29 [(60, n1, x), (0, n2, n), (0, n3, b), (0, n4, s), (0, 0, (e : Int)), P5, P6, P7] [] (0, 0) g (M') := by
      intro f
      induction f with
      | zero =>
        intro e M' P5 P6 P7 hee k1 k2 k3
        have q := fr M' k1
        refine jx_runL (o := jo_X0) (cs := cs_X0_findWays) (hf := jx_nh) jo_X0_ok hc_X0_findWays (jx_HK_nil rfl) (fun p => p == 167) 30 ?_
        simp only [jw, ju, jx_tg, Int.cast_ofNat_Int, Int.reduceAdd, Int.reduceToNat, Nat.reduceAdd, Nat.reduceMul, Nat.reduceBEq, Nat.reduceLeDiff, Int.reduceLE, Int.reduceLT, Int.reduceEq, Int.reduceNeg, Int.reduceSub, Int.reduceMul, not_false_eq_true, true_and, and_true, and_self, Bool.or_false, Bool.false_or, Bool.or_true, Bool.true_or, List.length_nil, List.length_cons, Nat.zero_le, or_true, true_or, Nat.le_refl, ↓reduceIte, Nat.reduceEqDiff, forall_const, false_and, and_false, false_implies, implies_true, not_true_eq_false, or_false, false_or, ne_eq, jd_X0_findWays, jd_X0_findWays_1, jf_X0, q.1, js_J10_max, js_X0_roundedUp, cs_X0_findWays, jx_ck_c]
        refine ⟨by omega, fun c => phase n.toNat 0 M' _ _ _ (by omega) k1 ⟨fun u v q => ?_, mm_clo_0, mm_wit_0 (fun u v a1 a2 a3 a4 a5 => ?_), fun a' b' t d h a1 b1 => ?_, fun g hg u v a1 a2 a3 a4 a5 => ?_⟩, fun c => by omega⟩
        · have := k2 u v q
          exact ⟨this.1, this.2.1⟩
        · obtain ⟨i, i0, i1, i2, i3, i4⟩ := (k2 u v ⟨⟨a1, a2⟩, a3, a4⟩).2.2 a5
          rw [i4]
          exact (wr i i0 (by omega) (by omega) (by omega)).1
        · obtain ⟨i, i0, i1, rfl, rfl, rfl, rfl⟩ := hE.2 a' b' t d h
          have w1 := k3 i i0 (by omega) a1 b1
          have w2 := wr i i0 i1 a1 b1
          exact ⟨by unfold mm_has; omega, w1⟩
        · obtain ⟨i, i0, i1, i2, i3, i4⟩ := (k2 u v ⟨⟨a1, a2⟩, a3, a4⟩).2.2 a5
          have := hg.2 _ _ _ _ (hE.1 i i0 (by omega)) (by omega) (by omega)
          rw [i4, ← i2, ← i3]
          exact this
      | succ f ih =>
        intro e M' P5 P6 P7 hee k1 k2 k3
        have q := fr M' k1
        obtain ⟨q1, q2, q3, q4⟩ := hE2 _ _ _ _ (hE.1 e (by omega) (by omega))
        obtain ⟨A, hA⟩ : ∃ A, A = M (x + 26) e := ⟨_, rfl⟩
        obtain ⟨B, hB⟩ : ∃ B, B = M (x + 27) e := ⟨_, rfl⟩
        obtain ⟨w, hw⟩ : ∃ w, w = wt (M (x + 26) e) (M (x + 27) e) (M (x + 28) e) (M (x + 29) e) := ⟨_, rfl⟩
        rw [← hA] at q1
        rw [← hB] at q2
        have at158 : ∀ (M'' : jx_M) (P5 P6 P7 : jx_A), xF36 x M M'' → (∀ u v, xf_in n u v → -1000000 ≤ xW n x M'' u v ∧ xW n x M'' u v ≤ 120 ∧ (mm_has (xW n x M'') u v → ∃ i, 0 ≤ i ∧ i < (e : Int) + 1 ∧ M (x + 26) i = u ∧ M (x + 27) i = v ∧ xW n x M'' u v = wt (M (x + 26) i) (M (x + 27) i) (M (x + 28) i) (M (x + 29) i))) → (∀ i, 0 ≤ i → i < (e : Int) + 1 → M (x + 26) i < n → M (x + 27) i < n → wt (M (x + 26) i) (M (x + 27) i) (M (x + 28) i) (M (x + 29) i) ≤ xW n x M'' (M (x + 26) i) (M (x + 27) i)) → jx_V D l (yX0_findWays.cls, cX0_findWays, 8, 4, [], 3, 0, 0, yX0_findWays.name) Po 158 [(60, n1, x), (0, n2, n), (0, n3, b), (0, n4, s), (0, 0, (e : Int)), P5, P6, P7] [] (0, 0) g (M'') := by
          intro M'' P5 P6 P7 j1 j2 j3
          refine jx_runL (o := jo_X0) (cs := cs_X0_findWays) (hf := jx_nh) jo_X0_ok hc_X0_findWays (jx_HK_nil rfl) (fun p => p == 29) 20 ?_
          simp only [jw, ju, jx_tg, Int.cast_ofNat_Int, Int.reduceAdd, Int.reduceToNat, Nat.reduceAdd, Nat.reduceMul, Nat.reduceBEq, Nat.reduceLeDiff, Int.reduceLE, Int.reduceLT, Int.reduceEq, Int.reduceNeg, Int.reduceSub, Int.reduceMul, not_false_eq_true, true_and, and_true, and_self, Bool.or_false, Bool.false_or, Bool.or_true, Bool.true_or, List.length_nil, List.length_cons, Nat.zero_le, or_true, true_or, Nat.le_refl, ↓reduceIte, Nat.reduceEqDiff, forall_const, false_and, and_false, false_implies, implies_true, not_true_eq_false, or_false, false_or, ne_eq, jd_X0_findWays, jd_X0_findWays_1, jf_X0, js_J10_max, js_X0_roundedUp, cs_X0_findWays, jx_ck_c]
          have := ih (e + 1) M'' P5 P6 P7 (by omega) j1 (by rw [show (((e + 1 : Nat) : Int)) = (e : Int) + 1 by omega]; exact j2) (by rw [show (((e + 1 : Nat) : Int)) = (e : Int) + 1 by omega]; exact j3)
          rw [show (((e + 1 : Nat) : Int)) = (e : Int) + 1 by omega] at this
          exact this
        have skip : ¬ (A < n ∧ B < n) → ∀ P5 P6 P7 : jx_A, jx_V D l (yX0_findWays.cls, cX0_findWays, 8, 4, [], 3, 0, 0, yX0_findWays.name) Po 158 [(60, n1, x), (0, n2, n), (0, n3, b), (0, n4, s), (0, 0, (e : Int)), P5, P6, P7] [] (0, 0) g (M') := fun c P5 P6 P7 => at158 M' P5 P6 P7 k1 (fun u v qq => ⟨(k2 u v qq).1, (k2 u v qq).2.1, fun hh => by
            obtain ⟨i, i0, i1, i2⟩ := (k2 u v qq).2.2 hh
            exact ⟨i, i0, by omega, i2⟩⟩) (fun i i0 i1 a1 b1 => k3 i i0 (by
            rcases (show i < (e : Int) ∨ i = e by omega) with z | z
            · exact z
            · rw [z, ← hA] at a1; rw [z, ← hB] at b1; exact absurd ⟨a1, b1⟩ c) a1 b1)
        have set1 : A < n → B < n → ∀ P7 : jx_A, jx_V D l (yX0_findWays.cls, cX0_findWays, 8, 4, [], 3, 0, 0, yX0_findWays.name) Po 158 [(60, n1, x), (0, n2, n), (0, n3, b), (0, n4, s), (0, 0, (e : Int)), (0, 0, A), (0, 0, B), P7] [] (0, 0) g (jx_u M' (x + 36) (n * A + B) (max (M' (x + 36) (n * A + B)) w)) := by
          intro a1 b1 P7
          have qq : xf_in n A B := ⟨⟨q1.1, a1⟩, q2.1, b1⟩
          have ww := wr e (by omega) (by omega) (by rw [← hA]; exact a1) (by rw [← hB]; exact b1)
          rw [← hw] at ww
          have kk := k2 A B qq
          have eW : M' (x + 36) (n * A + B) = xW n x M' A B := rfl
          refine at158 _ _ _ _ (fu _ _ _ k1) (fun u v qv => ?_) (fun i i0 i1 a2 b2 => ?_)
          · rw [xW_u qq qv]
            by_cases c : u = A ∧ v = B
            · rw [if_pos c, eW]
              refine ⟨by omega, by omega, fun hh => ?_⟩
              rcases (show xW n x M' A B ≤ w ∨ w < xW n x M' A B by omega) with z | z
              · exact ⟨e, by omega, by omega, by rw [c.1, ← hA], by rw [c.2, ← hB], by rw [← hw]; omega⟩
              · obtain ⟨i, i0, i1, i2, i3, i4⟩ := kk.2.2 (by unfold mm_has; omega)
                exact ⟨i, i0, by omega, by rw [c.1]; exact i2, by rw [c.2]; exact i3, by rw [← i4]; omega⟩
            · rw [if_neg c]
              have kv := k2 u v qv
              refine ⟨kv.1, kv.2.1, fun hh => ?_⟩
              unfold mm_has at hh
              rw [xW_u qq qv, if_neg c] at hh
              obtain ⟨i, i0, i1, i2⟩ := kv.2.2 hh
              exact ⟨i, i0, by omega, i2⟩
          · have r := hE2 _ _ _ _ (hE.1 i i0 (by omega))
            rw [xW_u qq ⟨⟨r.1.1, a2⟩, r.2.1.1, b2⟩]
            by_cases z : i = e
            · rw [if_pos ⟨by rw [z, hA], by rw [z, hB]⟩, z, ← hw]
              omega
            · have := k3 i i0 (by omega) a2 b2
              by_cases c : M (x + 26) i = A ∧ M (x + 27) i = B
              · rw [if_pos c, eW, ← c.1, ← c.2]
                omega
              · rw [if_neg c]
                exact this
        have gen : ∀ (a1 : A < n) (b1 : B < n), (0 ≤ n * A + B ∧ n * A + B < 256) ∧ (-1000000 ≤ M' (x + 36) (n * A + B) ∧ M' (x + 36) (n * A + B) ≤ 120) ∧ (-400 ≤ w ∧ w ≤ 120) := fun a1 b1 => by
          have qq : xf_in n A B := ⟨⟨q1.1, a1⟩, q2.1, b1⟩
          have := xf_ix hn.2 qq
          have ww := wr e (by omega) (by omega) (by rw [← hA]; exact a1) (by rw [← hB]; exact b1)
          rw [← hw] at ww
          have kk := k2 A B qq
          exact ⟨by omega, ⟨kk.1, kk.2.1⟩, ww⟩
        rcases hs with rfl | rfl
        · have ew : w = M (x + 28) e - b * M (x + 29) e := by rw [hw, hwt]; rfl
          refine jx_runL (o := jo_X0) (cs := cs_X0_findWays) (hf := jx_nh) jo_X0_ok hc_X0_findWays (jx_HK_nil rfl) (fun p => p == 158 || p == 164) 60 ?_
          simp only [jw, ju, jx_tg, Int.cast_ofNat_Int, Int.reduceAdd, Int.reduceToNat, Nat.reduceAdd, Nat.reduceMul, Nat.reduceBEq, Nat.reduceLeDiff, Int.reduceLE, Int.reduceLT, Int.reduceEq, Int.reduceNeg, Int.reduceSub, Int.reduceMul, not_false_eq_true, true_and, and_true, and_self, Bool.or_false, Bool.false_or, Bool.or_true, Bool.true_or, List.length_nil, List.length_cons, Nat.zero_le, or_true, true_or, Nat.le_refl, ↓reduceIte, Nat.reduceEqDiff, forall_const, false_and, and_false, false_implies, implies_true, not_true_eq_false, or_false, false_or, ne_eq, jd_X0_findWays, jd_X0_findWays_1, jf_X0, q.1, q.2.1, q.2.2.1, q.2.2.2.1, q.2.2.2.2.1, q.2.2.2.2.2, ← hA, ← hB, ← ew, js_J10_max, js_X0_roundedUp, cs_X0_findWays, jx_ck_c]
          refine ⟨by omega, fun c => by omega, fun c => ⟨by omega, by omega, by omega, fun c2 => skip (by omega) _ _ _, fun c2 => ⟨by omega, fun c3 => skip (by omega) _ _ _, fun c3 => ?_⟩⟩⟩
          have gg := gen (by omega) (by omega)
          exact ⟨by omega, by omega, gg.1, ⟨⟨by omega, by omega⟩, by omega, by omega⟩, gg.1, set1 (by omega) (by omega) _⟩
        · have ew : w = -(-(M (x + 28) e + M (x + 33) A - M (x + 33) B) / b) - M (x + 29) e := by
            rw [hw, hwt, ← hA, ← hB]
            show -M (x + 29) e - (M (x + 33) B - M (x + 33) A - M (x + 28) e) / b = _
            rw [show -(M (x + 28) e + M (x + 33) A - M (x + 33) B) = M (x + 33) B - M (x + 33) A - M (x + 28) e by omega]
            omega
          refine jx_runL (o := jo_X0) (cs := cs_X0_findWays) (hf := jx_nh) jo_X0_ok hc_X0_findWays (jx_HK_nil rfl) (fun p => p == 158 || p == 164) 90 ?_
          simp only [jw, ju, jx_tg, Int.cast_ofNat_Int, Int.reduceAdd, Int.reduceToNat, Nat.reduceAdd, Nat.reduceMul, Nat.reduceBEq, Nat.reduceLeDiff, Int.reduceLE, Int.reduceLT, Int.reduceEq, Int.reduceNeg, Int.reduceSub, Int.reduceMul, not_false_eq_true, true_and, and_true, and_self, Bool.or_false, Bool.false_or, Bool.or_true, Bool.true_or, List.length_nil, List.length_cons, Nat.zero_le, or_true, true_or, Nat.le_refl, ↓reduceIte, Nat.reduceEqDiff, forall_const, false_and, and_false, false_implies, implies_true, not_true_eq_false, or_false, false_or, ne_eq, jd_X0_findWays, jd_X0_findWays_1, jf_X0, q.1, q.2.1, q.2.2.1, q.2.2.2.1, q.2.2.2.2.1, q.2.2.2.2.2, ← hA, ← hB, ← ew, js_J10_max, js_X0_roundedUp, cs_X0_findWays, jx_ck_c]
          refine ⟨by omega, fun c => by omega, fun c => ⟨by omega, by omega, by omega, fun c2 => skip (by omega) _ _ _, fun c2 => ⟨by omega, fun c3 => skip (by omega) _ _ _, fun c3 => ?_⟩⟩⟩
          have gg := gen (by omega) (by omega)
          have t1 := hT rfl A q1.1 (by omega)
          have t2 := hT rfl B q2.1 (by omega)
          exact ⟨by omega, q1, q2, ⟨⟨by omega, by omega⟩, by omega, by omega⟩, by omega, gg.1, ⟨⟨by omega, by omega⟩, by omega, by omega⟩, gg.1, set1 (by omega) (by omega) _⟩
    have init : ∀ (f k : Nat) (M' : jx_M) (P5 P6 P7 : jx_A), (k : Int) + f = n * n → xF36 x M M' → (∀ j, 0 ≤ j → j < (k : Int) → M' (x + 36) j = -1000000) → jx_V D l (yX0_findWays.cls, cX0_findWays, 8, 4, [], 3, 0, 0, yX0_findWays.name) Po 3 [(60, n1, x), (0, n2, n), (0, n3, b), (0, n4, s), (0, 0, (k : Int)), P5, P6, P7] [] (0, 0) g (M') := by
      have hnn : n * n ≤ 16 * 16 := Int.mul_le_mul hn.2 hn.2 (by omega) (by decide)
      intro f
      induction f with
      | zero =>
        intro k M' P5 P6 P7 hk k1 k2
        refine jx_runL (o := jo_X0) (cs := cs_X0_findWays) (hf := jx_nh) jo_X0_ok hc_X0_findWays (jx_HK_nil rfl) (fun p => p == 29) 20 ?_
        simp only [jw, ju, jx_tg, Int.cast_ofNat_Int, Int.reduceAdd, Int.reduceToNat, Nat.reduceAdd, Nat.reduceMul, Nat.reduceBEq, Nat.reduceLeDiff, Int.reduceLE, Int.reduceLT, Int.reduceEq, Int.reduceNeg, Int.reduceSub, Int.reduceMul, not_false_eq_true, true_and, and_true, and_self, Bool.or_false, Bool.false_or, Bool.or_true, Bool.true_or, List.length_nil, List.length_cons, Nat.zero_le, or_true, true_or, Nat.le_refl, ↓reduceIte, Nat.reduceEqDiff, forall_const, false_and, and_false, false_implies, implies_true, not_true_eq_false, or_false, false_or, ne_eq, jd_X0_findWays, jd_X0_findWays_1, jf_X0, js_J10_max, js_X0_roundedUp, cs_X0_findWays, jx_ck_c]
        refine ⟨⟨⟨by omega, by omega⟩, by omega, by omega⟩, fun c => edge (M x 23).toNat 0 M' P5 P6 P7 (by omega) k1 (fun u v q => ?_) (fun i i0 i1 => by omega), fun c => by omega⟩
        have := xf_ix hn.2 q
        have e : xW n x M' u v = -1000000 := k2 _ this.1 (by omega)
        exact ⟨by omega, by omega, fun hh => by unfold mm_has at hh; omega⟩
      | succ f ih =>
        intro k M' P5 P6 P7 hk k1 k2
        refine jx_runL (o := jo_X0) (cs := cs_X0_findWays) (hf := jx_nh) jo_X0_ok hc_X0_findWays (jx_HK_nil rfl) (fun p => p == 3) 20 ?_
        simp only [jw, ju, jx_tg, Int.cast_ofNat_Int, Int.reduceAdd, Int.reduceToNat, Nat.reduceAdd, Nat.reduceMul, Nat.reduceBEq, Nat.reduceLeDiff, Int.reduceLE, Int.reduceLT, Int.reduceEq, Int.reduceNeg, Int.reduceSub, Int.reduceMul, not_false_eq_true, true_and, and_true, and_self, Bool.or_false, Bool.false_or, Bool.or_true, Bool.true_or, List.length_nil, List.length_cons, Nat.zero_le, or_true, true_or, Nat.le_refl, ↓reduceIte, Nat.reduceEqDiff, forall_const, false_and, and_false, false_implies, implies_true, not_true_eq_false, or_false, false_or, ne_eq, jd_X0_findWays, jd_X0_findWays_1, jf_X0, js_J10_max, js_X0_roundedUp, cs_X0_findWays, jx_ck_c]
        refine ⟨⟨⟨by omega, by omega⟩, by omega, by omega⟩, fun c => by omega, fun c => ⟨by omega, ?_⟩⟩
        have := ih (k + 1) (jx_u M' (x + 36) k (-1000000)) P5 P6 P7 (by omega) (fu _ _ _ k1) (fun j j0 j1 => ?_)
        · rw [show (((k + 1 : Nat) : Int)) = (k : Int) + 1 by omega] at this
          exact this
        · by_cases c2 : j = k
          · rw [c2, jx_u_eq]
          · rw [jx_u_j _ _ _ _ _ _ c2]; exact k2 j j0 (by omega)
    have hnn0 : 0 ≤ n * n := Int.mul_nonneg hn.1 hn.1
    refine jx_runL (o := jo_X0) (cs := cs_X0_findWays) (hf := jx_nh) jo_X0_ok hc_X0_findWays (jx_HK_nil rfl) (fun p => p == 3) 20 ?_
    simp only [jw, ju, jx_tg, Int.cast_ofNat_Int, Int.reduceAdd, Int.reduceToNat, Nat.reduceAdd, Nat.reduceMul, Nat.reduceBEq, Nat.reduceLeDiff, Int.reduceLE, Int.reduceLT, Int.reduceEq, Int.reduceNeg, Int.reduceSub, Int.reduceMul, not_false_eq_true, true_and, and_true, and_self, Bool.or_false, Bool.false_or, Bool.or_true, Bool.true_or, List.length_nil, List.length_cons, Nat.zero_le, or_true, true_or, Nat.le_refl, ↓reduceIte, Nat.reduceEqDiff, forall_const, false_and, and_false, false_implies, implies_true, not_true_eq_false, or_false, false_or, ne_eq, jd_X0_findWays, jd_X0_findWays_1, jf_X0, js_J10_max, js_X0_roundedUp, cs_X0_findWays, jx_ck_c]
    exact init (n * n).toNat 0 M _ _ _ (by omega) (fun _ _ _ => rfl) (fun j a b => by omega)
  · exact hS.elim
