/-! EDGES 2: the reference's gather; count -/
set_option maxRecDepth 100000
/-- an operand that stands; the edges of one act, their number; all edges -/
def me_op (S : jx_M) (k : Int) : Prop := 0 ≤ S 6 k ∧ S 6 k < S 0 9
def me_ops (S : jx_M) (b n : Int) : mm_E := fun a' b' t d => ∃ k, 3 * b ≤ k ∧ k < 3 * b + n ∧ me_op S k ∧ a' = S 6 k ∧ b' = b ∧ t = S 2 (S 6 k) ∧ d = S 7 k
noncomputable def me_c1 (S : jx_M) (k : Int) : Int := @ite _ (me_op S k) (Classical.propDecidable _) 1 0
noncomputable def me_co (S : jx_M) (b : Int) : Nat → Int
  | 0 => 0
  | n + 1 => me_co S b n + me_c1 S (3 * b + n)
def me_tws (S : jx_M) (b n : Int) : mm_E := fun a' b' t d => ∃ a, 0 ≤ a ∧ a < n ∧ me_two S a b a' b' t d
noncomputable def me_ct (S : jx_M) (b : Int) (n : Nat) : Int := mm_sum (fun a => me_cn S a b) n
def me_b (S : jx_M) (b : Int) : mm_E := fun a' b' t d => me_ops S b 3 a' b' t d ∨ (S 1 b = 5 ∧ a' = b ∧ b' = b ∧ t = 1 ∧ d = 1) ∨ me_tws S b (S 0 9) a' b' t d
noncomputable def me_cb (S : jx_M) (b : Int) : Int := me_co S b 3 + (if S 1 b = 5 then 1 else 0) + me_ct S b (S 0 9).toNat
def me_body (S : jx_M) (n : Int) : mm_E := fun a' b' t d => ∃ b, 0 ≤ b ∧ b < n ∧ me_b S b a' b' t d
def me_tld (S : jx_M) (n : Int) : mm_E := fun a' b' t d => ∃ e, 0 ≤ e ∧ e < n ∧ a' = S 11 e ∧ b' = S 12 e ∧ t = S 13 e ∧ d = S 14 e
def me_all (S : jx_M) : mm_E := fun a' b' t d => me_body S (S 0 9) a' b' t d ∨ me_tld S (S 0 15) a' b' t d
noncomputable def me_n (S : jx_M) : Int := mm_sum (me_cb S) (S 0 9).toNat
theorem me_c1_r {S : jx_M} {k : Int} : 0 ≤ me_c1 S k ∧ me_c1 S k ≤ 1 := by
  unfold me_c1
  split <;> omega
theorem me_co_r {S : jx_M} {b : Int} : ∀ n : Nat, 0 ≤ me_co S b n ∧ me_co S b n ≤ n
  | 0 => ⟨Int.le_refl _, Int.le_refl _⟩
  | n + 1 => by
    have ih := @me_co_r S b n
    have := @me_c1_r S (3 * b + n)
    unfold me_co
    omega
theorem me_ct_r {S : jx_M} {b : Int} (hb : 0 ≤ b) : ∀ n : Nat, 0 ≤ me_ct S b n ∧ ((n : Int) ≤ b → me_ct S b n ≤ 4 * n) ∧ (b < n → me_ct S b n ≤ 4 * b + (n - 1 - b))
  | 0 => by
    show 0 ≤ (0 : Int) ∧ _ ∧ _
    refine ⟨Int.le_refl _, fun _ => ?_, fun h => by omega⟩
    show (0 : Int) ≤ _
    omega
  | n + 1 => by
    have ih := @me_ct_r S b hb n
    have hc := @me_cn_r S n b
    have e : me_ct S b (n + 1) = me_ct S b n + me_cn S n b := rfl
    rw [e]
    obtain ⟨c1, c2, c3, c4⟩ := hc
    refine ⟨by omega, fun h => ?_, fun h => ?_⟩
    · have := c2 (by omega)
      have := ih.2.1 (by omega)
      omega
    · rcases (show (n : Int) < b ∨ (n : Int) = b ∨ b < (n : Int) by omega) with z | z | z
      · have := c2 z
        have := ih.2.1 (by omega)
        omega
      · have := c3 z
        have := ih.2.1 (by omega)
        omega
      · have := c4 z
        have := ih.2.2 z
        omega
theorem me_cb_r {S : jx_M} {b : Int} (hn : S 0 9 ≤ 16) (hb : 0 ≤ b ∧ b < S 0 9) : 0 ≤ me_cb S b ∧ me_cb S b ≤ 19 + 3 * b := by
  have h1 := @me_co_r S b 3
  have h2 := @me_ct_r S b hb.1 (S 0 9).toNat
  unfold me_cb
  split <;> omega
theorem me_sum_r {S : jx_M} (hn : S 0 9 ≤ 16) : ∀ n : Nat, (n : Int) ≤ S 0 9 → 0 ≤ mm_sum (me_cb S) n ∧ 2 * mm_sum (me_cb S) n ≤ 35 * n + 3 * ((n : Int) * n)
  | 0, _ => by
    show 0 ≤ (0 : Int) ∧ 2 * (0 : Int) ≤ _
    omega
  | n + 1, h => by
    have ih := me_sum_r hn n (by omega)
    have hc := me_cb_r (b := n) hn (by omega)
    have e : mm_sum (me_cb S) (n + 1) = mm_sum (me_cb S) n + me_cb S n := rfl
    have e2 : (((n + 1 : Nat) : Int)) * ((n + 1 : Nat) : Int) = (n : Int) * n + 2 * n + 1 := by
      rw [Int.natCast_add, Int.add_mul, Int.mul_add]
      omega
    rw [e, e2]
    omega
/-- room for one more -/
theorem me_room {S : jx_M} (hn : S 0 9 ≤ 16) {b : Nat} (hb : (b : Int) < S 0 9) {w : Int} (hw : w ≤ 19 + 3 * b) : mm_sum (me_cb S) b + w ≤ 664 := by
  have h := me_sum_r hn b (by omega)
  have h2 : (b : Int) * b ≤ 15 * b := Int.mul_le_mul_of_nonneg_right (by omega) (by omega)
  omega
theorem me_n_r {S : jx_M} (hn : 0 ≤ S 0 9 ∧ S 0 9 ≤ 16) : 0 ≤ me_n S ∧ me_n S ≤ 664 := by
  have h := me_sum_r hn.2 (S 0 9).toNat (by omega)
  unfold me_n
  refine ⟨h.1, ?_⟩
  by_cases h0 : S 0 9 = 0
  · rw [h0]
    show (0 : Int) ≤ 664
    omega
  · obtain ⟨m, hm⟩ : ∃ m : Nat, (S 0 9).toNat = m + 1 := ⟨(S 0 9).toNat - 1, by omega⟩
    rw [hm]
    have hc := me_cb_r (b := m) hn.2 (by omega)
    exact me_room hn.2 (b := m) (by omega) hc.2
/-- the body as edges need it -/
def me_W (S : jx_M) : Prop := (0 ≤ S 0 9 ∧ S 0 9 ≤ 16) ∧ (0 ≤ S 0 15 ∧ S 0 15 ≤ 40) ∧ (∀ a, 0 ≤ a → a < S 0 9 → (0 ≤ S 1 a ∧ S 1 a ≤ 6) ∧ (-1 ≤ S 5 a ∧ S 5 a ≤ 7)) ∧ ∀ k, 0 ≤ k → k < 3 * S 0 9 → -1 ≤ S 6 k ∧ S 6 k ≤ 15
/-- what gather leaves -/
def mEg (y : Int) (M M' : jx_M) : Prop := M' y 20 = me_n (mY M y) + M y 15 ∧ mm_EO (me_all (mY M y)) (M' (y + 15)) (M' (y + 16)) (M' (y + 17)) (M' (y + 18)) (M' y 20) ∧
  ∀ z k : Int, z ≠ y + 15 → z ≠ y + 16 → z ≠ y + 17 → z ≠ y + 18 → ¬ (z = y ∧ k = 20) → M' z k = M z k
def js_X13_gather : jx_Sp := fun as g M Po => match as with
  | [(73, _, y)] => me_W (mY M y) ∧ ∀ M', mEg y M M' → Po (3, 0, 0) g M'
  | _ => False
def cs_X13_gather : jx_Cs := [(549, 5, 0, 0, js_X13_enter), (558, 3, 0, 0, js_X13_gatherTwo)]
theorem hc_X13_gather {D : jx_D} {l : Launch} : jx_CsOK D l "LoopLaneModel" 2 cs_X13_gather := List.forall_mem_cons.mpr ⟨jc_X13_183 (jt_X13_enter l) (fun as g M Po (h : js_X13_enter as g M Po) => by unfold js_X13_enter at h; split at h <;> first | exact h.elim | exact ⟨_, _, _, rfl, rfl⟩) (by decide), List.forall_mem_cons.mpr ⟨jc_X13_186 (jt_X13_gatherTwo l) (fun as g M Po (h : js_X13_gatherTwo as g M Po) => by unfold js_X13_gatherTwo at h; split at h <;> first | exact h.elim | exact ⟨_, _, _, rfl, rfl⟩) (by decide), fun _ h => absurd h List.not_mem_nil⟩⟩
set_option maxHeartbeats 4000000 in
theorem jt_X13_gather (l : Launch) : jx_Ct l yX13_gather (ws_ yX13_gather cX13_gather 3 none) 2 0 0 js_X13_gather := by
  refine jx_Ct_c (rc := 3) (by decide) rfl (fun D as g M Po hS => ?_)
  unfold js_X13_gather at hS
  split at hS
  · rename_i n1 y
    obtain ⟨⟨w1, w2, w3, w4⟩, hP⟩ := hS
    have w1' := w1
    rw [mY_0] at w1 w2 w3 w4
    simp only [mY_j] at w3 w4
    refine ⟨Nat.le_of_ble_eq_true rfl, ?_⟩
    obtain ⟨M0, hM0⟩ : ∃ q, q = jx_u M y 20 0 := ⟨_, rfl⟩
    have m0a : M0 y 20 = 0 := by rw [hM0, jx_u_eq]
    have m0b : ∀ z k : Int, ¬ (z = y ∧ k = 20) → M0 z k = M z k := fun z k h => by rw [hM0]; exact if_neg h
    -- what holds at every place: the edges so far
    have told : ∀ (f e : Nat) (P : jx_A) (M' : jx_M), (e : Int) + f = M y 15 → mEy y M0 M' (mm_EU (me_body (mY M y) (M y 9)) (me_tld (mY M y) e)) (me_n (mY M y) + e) → jx_V D l (yX13_gather.cls, cX13_gather, 3, 3, [], 2, 0, 0, yX13_gather.name) Po 132 [(73, n1, y), (0, 0, (e : Int)), P] [] (0, 0) g (M') := by
      intro f
      induction f with
      | zero =>
        intro e P M' he k1
        have q15 : M' y 15 = M y 15 := by rw [mEy_0 k1 (by decide), m0b _ _ (by omega)]
        refine jx_runL (o := jo_X13) (cs := cs_X13_gather) (hf := jx_nh) jo_X13_ok hc_X13_gather (jx_HK_nil rfl) (fun p => p == 132) 60 ?_
        simp only [jw, ju, jx_tg, Int.cast_ofNat_Int, Int.reduceAdd, Int.reduceToNat, Nat.reduceAdd, Nat.reduceMul, Nat.reduceBEq, Nat.reduceLeDiff, Int.reduceLE, Int.reduceLT, Int.reduceEq, Int.reduceNeg, Int.reduceSub, Int.reduceMul, not_false_eq_true, true_and, and_true, and_self, Bool.or_false, Bool.false_or, Bool.or_true, Bool.true_or, List.length_nil, List.length_cons, Nat.zero_le, or_true, true_or, Nat.le_refl, ↓reduceIte, Nat.reduceEqDiff, forall_const, false_and, and_false, false_implies, implies_true, not_true_eq_false, or_false, false_or, ne_eq, jd_X13_gather, jf_X13, q15, js_X13_enter, js_X13_gatherTwo, cs_X13_gather, jx_ck_c]
        refine ⟨by omega, fun c => hP _ ⟨?_, ?_, fun z k a0 a1 a2 a3 a4 => ?_⟩, fun c => by omega⟩
        · rw [k1.1, m0a]
          omega
        · have := k1.2.1 mm_E0 (by rw [m0a]; exact mm_EO_0)
          refine mm_EO_iff this (fun a b t d => ?_)
          unfold me_all mm_EU mm_E0
          rw [mY_0, mY_0, show (M y 15 : Int) = e by omega]
          exact ⟨fun z => z.elim (fun w => w.elim) (fun w => w), Or.inr⟩
        · rw [k1.2.2 z k a0 a1 a2 a3 a4, m0b _ _ a4]
      | succ f ih =>
        intro e P M' he k1
        have q15 : M' y 15 = M y 15 := by rw [mEy_0 k1 (by decide), m0b _ _ (by omega)]
        have qq : ∀ j k : Int, 1 ≤ j → j < 15 → M' (y + j) k = M (y + j) k := fun j k a b => by rw [mEy_off k1 (by omega) (by omega), m0b _ _ (by omega)]
        have k20 : M' y 20 = M0 y 20 + (me_n (mY M y) + e) := k1.1
        have hnr := me_n_r w1'
        refine jx_runL (o := jo_X13) (cs := cs_X13_gather) (hf := jx_nh) jo_X13_ok hc_X13_gather (jx_HK_nil rfl) (fun p => p == 132) 60 ?_
        simp only [jw, ju, jx_tg, Int.cast_ofNat_Int, Int.reduceAdd, Int.reduceToNat, Nat.reduceAdd, Nat.reduceMul, Nat.reduceBEq, Nat.reduceLeDiff, Int.reduceLE, Int.reduceLT, Int.reduceEq, Int.reduceNeg, Int.reduceSub, Int.reduceMul, not_false_eq_true, true_and, and_true, and_self, Bool.or_false, Bool.false_or, Bool.or_true, Bool.true_or, List.length_nil, List.length_cons, Nat.zero_le, or_true, true_or, Nat.le_refl, ↓reduceIte, Nat.reduceEqDiff, forall_const, false_and, and_false, false_implies, implies_true, not_true_eq_false, or_false, false_or, ne_eq, jd_X13_gather, jf_X13, q15, qq 11 e (by omega) (by omega), qq 12 e (by omega) (by omega), qq 13 e (by omega) (by omega), qq 14 e (by omega) (by omega), js_X13_enter, js_X13_gatherTwo, cs_X13_gather, jx_ck_c]
        refine ⟨by omega, fun c => by omega, fun c => ⟨by omega, by omega, by omega, by omega, by omega, ?_⟩⟩
        refine ih (e + 1) P _ (by omega) (mEx_iff (mEx_tr k1 (mEy_ent (y := y) (M := M') (by omega))) (fun a b t d => ?_) (by omega))
        unfold mm_EU mm_E1 me_tld
        constructor
        · rintro ((z | ⟨q, q0, q1, q2⟩) | z)
          · exact Or.inl z
          · exact Or.inr ⟨q, q0, by omega, q2⟩
          · exact Or.inr ⟨e, by omega, by omega, z⟩
        · rintro (z | ⟨q, q0, q1, q2⟩)
          · exact Or.inl (Or.inl z)
          · by_cases hq : q = e
            · rw [hq] at q2
              exact Or.inr q2
            · exact Or.inl (Or.inr ⟨q, q0, by omega, q2⟩)
    have outer : ∀ (f b : Nat) (P : jx_A) (M' : jx_M), (b : Int) + f = M y 9 → mEy y M0 M' (me_body (mY M y) b) (mm_sum (me_cb (mY M y)) b) → jx_V D l (yX13_gather.cls, cX13_gather, 3, 3, [], 2, 0, 0, yX13_gather.name) Po 7 [(73, n1, y), (0, 0, (b : Int)), P] [] (0, 0) g (M') := by
      intro f
      induction f with
      | zero =>
        intro b P M' hb k1
        have q9 : M' y 9 = M y 9 := by rw [mEy_0 k1 (by decide), m0b _ _ (by omega)]
        refine jx_runL (o := jo_X13) (cs := cs_X13_gather) (hf := jx_nh) jo_X13_ok hc_X13_gather (jx_HK_nil rfl) (fun p => p == 7 || p == 132) 60 ?_
        simp only [jw, ju, jx_tg, Int.cast_ofNat_Int, Int.reduceAdd, Int.reduceToNat, Nat.reduceAdd, Nat.reduceMul, Nat.reduceBEq, Nat.reduceLeDiff, Int.reduceLE, Int.reduceLT, Int.reduceEq, Int.reduceNeg, Int.reduceSub, Int.reduceMul, not_false_eq_true, true_and, and_true, and_self, Bool.or_false, Bool.false_or, Bool.or_true, Bool.true_or, List.length_nil, List.length_cons, Nat.zero_le, or_true, true_or, Nat.le_refl, ↓reduceIte, Nat.reduceEqDiff, forall_const, false_and, and_false, false_implies, implies_true, not_true_eq_false, or_false, false_or, ne_eq, jd_X13_gather, jf_X13, q9, js_X13_enter, js_X13_gatherTwo, cs_X13_gather, jx_ck_c]
        refine ⟨by omega, fun c => told (M y 15).toNat 0 P M' (by omega) (mEx_iff k1 (fun a b' t d => ?_) ?_), fun c => by omega⟩
        · unfold mm_EU me_tld
          rw [show (M y 9 : Int) = b by omega]
          exact ⟨Or.inl, fun z => z.elim (fun w => w) (fun ⟨q, q0, q1, _⟩ => by omega)⟩
        · unfold me_n
          rw [mY_0, show (M y 9).toNat = b by omega]
          omega
      | succ f ih =>
        intro b P M' hb k1
        have hS : ∀ (M' : jx_M) (P : mm_E) (c : Int), mEy y M0 M' P c → M' y 9 = M y 9 ∧ ∀ j k : Int, 1 ≤ j → j < 15 → M' (y + j) k = M (y + j) k := fun M' P c k => ⟨by rw [mEy_0 k (by decide), m0b _ _ (by omega)], fun j q a b => by rw [mEy_off k (by omega) (by omega), m0b _ _ (by omega)]⟩
        have hroom := fun w hw => me_room (S := mY M y) w1'.2 (b := b) (by rw [mY_0]; omega) (w := w) hw
        have hs0 := (me_sum_r (S := mY M y) w1'.2 b (by rw [mY_0]; omega)).1
        have hco := fun n => @me_co_r (mY M y) b n
        have wb := w3 b (by omega) (by omega)
        have at104 : ∀ (f a : Nat) (M' : jx_M), (a : Int) + f = M y 9 → mEy y M0 M' (mm_EU (mm_EU (mm_EU (me_body (mY M y) b) (me_ops (mY M y) b 3)) (fun a' b' t d => M (y + 1) b = 5 ∧ a' = b ∧ b' = b ∧ t = 1 ∧ d = 1)) (me_tws (mY M y) b a)) (mm_sum (me_cb (mY M y)) b + (me_co (mY M y) b 3 + (if M (y + 1) b = 5 then 1 else 0)) + me_ct (mY M y) b a) → jx_V D l (yX13_gather.cls, cX13_gather, 3, 3, [], 2, 0, 0, yX13_gather.name) Po 104 [(73, n1, y), (0, 0, (b : Int)), (0, 0, (a : Int))] [] (0, 0) g (M') := by
          intro f
          induction f with
          | zero =>
            intro a M' ha k
            have q9 := (hS M' _ _ k).1
            refine jx_runL (o := jo_X13) (cs := cs_X13_gather) (hf := jx_nh) jo_X13_ok hc_X13_gather (jx_HK_nil rfl) (fun p => p == 7 || p == 104) 60 ?_
            simp only [jw, ju, jx_tg, Int.cast_ofNat_Int, Int.reduceAdd, Int.reduceToNat, Nat.reduceAdd, Nat.reduceMul, Nat.reduceBEq, Nat.reduceLeDiff, Int.reduceLE, Int.reduceLT, Int.reduceEq, Int.reduceNeg, Int.reduceSub, Int.reduceMul, not_false_eq_true, true_and, and_true, and_self, Bool.or_false, Bool.false_or, Bool.or_true, Bool.true_or, List.length_nil, List.length_cons, Nat.zero_le, or_true, true_or, Nat.le_refl, ↓reduceIte, Nat.reduceEqDiff, forall_const, false_and, and_false, false_implies, implies_true, not_true_eq_false, or_false, false_or, ne_eq, jd_X13_gather, jf_X13, q9, js_X13_enter, js_X13_gatherTwo, cs_X13_gather, jx_ck_c]
            refine ⟨by omega, fun c => ih (b + 1) _ M' (by omega) (mEx_iff k (fun a' b' t d => ?_) ?_), fun c => by omega⟩
            · unfold mm_EU me_body me_b
              rw [mY_0, show (M y 9 : Int) = a by omega]
              constructor
              · rintro (((⟨q, q0, q1, q2⟩ | z) | z) | z)
                · exact ⟨q, q0, by omega, q2⟩
                · exact ⟨b, by omega, by omega, Or.inl z⟩
                · exact ⟨b, by omega, by omega, Or.inr (Or.inl z)⟩
                · exact ⟨b, by omega, by omega, Or.inr (Or.inr z)⟩
              · rintro ⟨q, q0, q1, q2⟩
                by_cases hq : q = b
                · rw [hq] at q2
                  rcases q2 with z | z | z
                  · exact Or.inl (Or.inl (Or.inr z))
                  · exact Or.inl (Or.inr z)
                  · exact Or.inr z
                · exact Or.inl (Or.inl (Or.inl ⟨q, q0, by omega, q2⟩))
            · show _ = mm_sum (me_cb (mY M y)) b + me_cb (mY M y) b
              unfold me_cb
              rw [mY_0, show (M y 9).toNat = a by omega, mY_j]
              omega
          | succ f ih2 =>
            intro a M' ha k
            have q := hS M' _ _ k
            have q9 := q.1
            have k20 : M' y 20 = M0 y 20 + _ := k.1
            have hcn := @me_cn_r (mY M y) a b
            have hct := @me_ct_r (mY M y) b (by omega) (a + 1)
            have ect : me_ct (mY M y) b (a + 1) = me_ct (mY M y) b a + me_cn (mY M y) a b := rfl
            have hct0 := (@me_ct_r (mY M y) b (by omega) a).1
            have h3 := hco 3
            have wa := w3 a (by omega) (by omega)
            have hrm := hroom (me_co (mY M y) b 3 + (if M (y + 1) b = 5 then 1 else 0) + me_ct (mY M y) b (a + 1)) (by split <;> omega)
            have hst : 0 ≤ (if M (y + 1) b = 5 then (1 : Int) else 0) ∧ (if M (y + 1) b = 5 then (1 : Int) else 0) ≤ 1 := by split <;> omega
            have esame : me_cn (mY M' y) a b = me_cn (mY M y) a b ∧ me_two (mY M' y) a b = me_two (mY M y) a b := by
              have z1 : ∀ k, mY M' y 1 k = mY M y 1 k := fun k => q.2 1 k (by omega) (by omega)
              have z5 : ∀ k, mY M' y 5 k = mY M y 5 k := fun k => q.2 5 k (by omega) (by omega)
              have e1 : me_rw (mY M' y) a b = me_rw (mY M y) a b := by unfold me_rw; rw [z1, z1, z5, z5]
              have e2 : me_bh (mY M' y) a b = me_bh (mY M y) a b := by unfold me_bh; rw [z1, z1]
              constructor
              · unfold me_cn
                rw [e1, e2]
              · funext a' b' t d
                unfold me_two
                rw [e1, e2]
            refine jx_runL (o := jo_X13) (cs := cs_X13_gather) (hf := jx_nh) jo_X13_ok hc_X13_gather (jx_HK_nil rfl) (fun p => p == 104) 60 ?_
            simp only [jw, ju, jx_tg, Int.cast_ofNat_Int, Int.reduceAdd, Int.reduceToNat, Nat.reduceAdd, Nat.reduceMul, Nat.reduceBEq, Nat.reduceLeDiff, Int.reduceLE, Int.reduceLT, Int.reduceEq, Int.reduceNeg, Int.reduceSub, Int.reduceMul, not_false_eq_true, true_and, and_true, and_self, Bool.or_false, Bool.false_or, Bool.or_true, Bool.true_or, List.length_nil, List.length_cons, Nat.zero_le, or_true, true_or, Nat.le_refl, ↓reduceIte, Nat.reduceEqDiff, forall_const, false_and, and_false, false_implies, implies_true, not_true_eq_false, or_false, false_or, ne_eq, jd_X13_gather, jf_X13, q9, js_X13_enter, js_X13_gatherTwo, cs_X13_gather, jx_ck_c]
            rw [esame.1, esame.2, q.2 1 a (by omega) (by omega), q.2 1 b (by omega) (by omega), q.2 5 a (by omega) (by omega), q.2 5 b (by omega) (by omega)]
            refine ⟨by omega, fun c => by omega, fun c => ⟨⟨by omega, by omega, by omega, by omega, by omega, by omega, by omega⟩, fun M2 k2 => ih2 (a + 1) M2 (by omega) (mEx_iff (mEx_tr k k2) (fun a' b' t d => ?_) (by omega))⟩⟩
            unfold mm_EU me_tws
            constructor
            · rintro ((z | ⟨q, q0, q1, q2⟩) | z)
              · exact Or.inl z
              · exact Or.inr ⟨q, q0, by omega, q2⟩
              · exact Or.inr ⟨a, by omega, by omega, z⟩
            · rintro (z | ⟨q, q0, q1, q2⟩)
              · exact Or.inl (Or.inl z)
              · by_cases hq : q = a
                · rw [hq] at q2
                  exact Or.inr q2
                · exact Or.inl (Or.inr ⟨q, q0, by omega, q2⟩)
        have at84 : ∀ (P : jx_A) (M' : jx_M), mEy y M0 M' (mm_EU (me_body (mY M y) b) (me_ops (mY M y) b 3)) (mm_sum (me_cb (mY M y)) b + me_co (mY M y) b 3) → jx_V D l (yX13_gather.cls, cX13_gather, 3, 3, [], 2, 0, 0, yX13_gather.name) Po 84 [(73, n1, y), (0, 0, (b : Int)), P] [] (0, 0) g (M') := by
          intro P M' k
          have q := hS M' _ _ k
          have q1 : M' (y + 1) b = M (y + 1) b := q.2 1 b (by omega) (by omega)
          have k20 : M' y 20 = M0 y 20 + _ := k.1
          have h3 := hco 3
          have hrm := hroom (me_co (mY M y) b 3 + 1) (by omega)
          have hE0 : ∀ M', mEy y M0 M' (mm_EU (mm_EU (me_body (mY M y) b) (me_ops (mY M y) b 3)) (fun a' b' t d => M (y + 1) b = 5 ∧ a' = b ∧ b' = b ∧ t = 1 ∧ d = 1)) (mm_sum (me_cb (mY M y)) b + (me_co (mY M y) b 3 + (if M (y + 1) b = 5 then 1 else 0))) → jx_V D l (yX13_gather.cls, cX13_gather, 3, 3, [], 2, 0, 0, yX13_gather.name) Po 104 [(73, n1, y), (0, 0, (b : Int)), (0, 0, 0)] [] (0, 0) g (M') := fun M' k => at104 (M y 9).toNat 0 M' (by omega) (mEx_iff k (fun a' b' t d => by
            unfold mm_EU me_tws
            exact ⟨Or.inl, fun z => z.elim (fun w => w) (fun ⟨q, q0, q1, _⟩ => by omega)⟩) (by
            show _ = _ + (0 : Int)
            omega))
          by_cases hst : M (y + 1) b = 5
          · rw [if_pos hst] at hE0
            refine jx_runL (o := jo_X13) (cs := cs_X13_gather) (hf := jx_nh) jo_X13_ok hc_X13_gather (jx_HK_nil rfl) (fun p => p == 104) 60 ?_
            simp only [jw, ju, jx_tg, Int.cast_ofNat_Int, Int.reduceAdd, Int.reduceToNat, Nat.reduceAdd, Nat.reduceMul, Nat.reduceBEq, Nat.reduceLeDiff, Int.reduceLE, Int.reduceLT, Int.reduceEq, Int.reduceNeg, Int.reduceSub, Int.reduceMul, not_false_eq_true, true_and, and_true, and_self, Bool.or_false, Bool.false_or, Bool.or_true, Bool.true_or, List.length_nil, List.length_cons, Nat.zero_le, or_true, true_or, Nat.le_refl, ↓reduceIte, Nat.reduceEqDiff, forall_const, false_and, and_false, false_implies, implies_true, not_true_eq_false, or_false, false_or, ne_eq, jd_X13_gather, jf_X13, q1, js_X13_enter, js_X13_gatherTwo, cs_X13_gather, jx_ck_c]
            refine ⟨by omega, by omega, fun c => absurd hst c, fun c => ⟨by omega, hE0 _ (mEx_iff (mEx_tr k (mEy_ent (y := y) (M := M') (by omega))) (fun a' b' t d => ?_) (by omega))⟩⟩
            unfold mm_EU mm_E1
            exact ⟨fun z => z.elim Or.inl (fun w => Or.inr ⟨hst, w⟩), fun z => z.elim Or.inl (fun w => Or.inr w.2)⟩
          · rw [if_neg hst] at hE0
            refine jx_runL (o := jo_X13) (cs := cs_X13_gather) (hf := jx_nh) jo_X13_ok hc_X13_gather (jx_HK_nil rfl) (fun p => p == 104) 60 ?_
            simp only [jw, ju, jx_tg, Int.cast_ofNat_Int, Int.reduceAdd, Int.reduceToNat, Nat.reduceAdd, Nat.reduceMul, Nat.reduceBEq, Nat.reduceLeDiff, Int.reduceLE, Int.reduceLT, Int.reduceEq, Int.reduceNeg, Int.reduceSub, Int.reduceMul, not_false_eq_true, true_and, and_true, and_self, Bool.or_false, Bool.false_or, Bool.or_true, Bool.true_or, List.length_nil, List.length_cons, Nat.zero_le, or_true, true_or, Nat.le_refl, ↓reduceIte, Nat.reduceEqDiff, forall_const, false_and, and_false, false_implies, implies_true, not_true_eq_false, or_false, false_or, ne_eq, jd_X13_gather, jf_X13, q1, js_X13_enter, js_X13_gatherTwo, cs_X13_gather, jx_ck_c]
            refine ⟨by omega, by omega, fun c => hE0 _ (mEx_iff k (fun a' b' t d => ?_) (by omega)), fun c => absurd c (by omega)⟩
            unfold mm_EU
            exact ⟨Or.inl, fun z => z.elim (fun w => w) (fun w => absurd w.1 hst)⟩
        have at19 : ∀ (f n : Nat) (M' : jx_M), n + f = 3 → mEy y M0 M' (mm_EU (me_body (mY M y) b) (me_ops (mY M y) b n)) (mm_sum (me_cb (mY M y)) b + me_co (mY M y) b n) → jx_V D l (yX13_gather.cls, cX13_gather, 3, 3, [], 2, 0, 0, yX13_gather.name) Po 19 [(73, n1, y), (0, 0, (b : Int)), (0, 0, 3 * (b : Int) + n)] [] (0, 0) g (M') := by
          intro f
          induction f with
          | zero =>
            intro n M' hn k
            refine jx_runL (o := jo_X13) (cs := cs_X13_gather) (hf := jx_nh) jo_X13_ok hc_X13_gather (jx_HK_nil rfl) (fun p => p == 19 || p == 84) 60 ?_
            simp only [jw, ju, jx_tg, Int.cast_ofNat_Int, Int.reduceAdd, Int.reduceToNat, Nat.reduceAdd, Nat.reduceMul, Nat.reduceBEq, Nat.reduceLeDiff, Int.reduceLE, Int.reduceLT, Int.reduceEq, Int.reduceNeg, Int.reduceSub, Int.reduceMul, not_false_eq_true, true_and, and_true, and_self, Bool.or_false, Bool.false_or, Bool.or_true, Bool.true_or, List.length_nil, List.length_cons, Nat.zero_le, or_true, true_or, Nat.le_refl, ↓reduceIte, Nat.reduceEqDiff, forall_const, false_and, and_false, false_implies, implies_true, not_true_eq_false, or_false, false_or, ne_eq, jd_X13_gather, jf_X13, js_X13_enter, js_X13_gatherTwo, cs_X13_gather, jx_ck_c]
            refine ⟨by omega, fun c => at84 _ M' ?_, fun c => by omega⟩
            rw [show n = 3 by omega] at k
            exact k
          | succ f ih3 =>
            intro n M' hn k
            have q := hS M' _ _ k
            have q9 := q.1
            have q6 : M' (y + 6) (3 * b + n) = M (y + 6) (3 * b + n) := q.2 6 _ (by omega) (by omega)
            have q7 : M' (y + 7) (3 * b + n) = M (y + 7) (3 * b + n) := q.2 7 _ (by omega) (by omega)
            have q2 : M' (y + 2) (M (y + 6) (3 * b + n)) = M (y + 2) (M (y + 6) (3 * b + n)) := q.2 2 _ (by omega) (by omega)
            have k20 : M' y 20 = M0 y 20 + _ := k.1
            have h3 := hco n
            have hrm := hroom (me_co (mY M y) b n + 1) (by omega)
            have w6 := w4 (3 * b + n) (by omega) (by omega)
            have eco : me_co (mY M y) b (n + 1) = me_co (mY M y) b n + me_c1 (mY M y) (3 * b + n) := rfl
            have hx := ih3 (n + 1)
            rw [show 3 * (b : Int) + ((n + 1 : Nat) : Int) = 3 * (b : Int) + n + 1 by omega] at hx
            have grow : ∀ a' b' t d, me_ops (mY M y) b (n + 1 : Nat) a' b' t d ↔ me_ops (mY M y) b n a' b' t d ∨ (me_op (mY M y) (3 * b + n) ∧ a' = M (y + 6) (3 * b + n) ∧ b' = b ∧ t = M (y + 2) (M (y + 6) (3 * b + n)) ∧ d = M (y + 7) (3 * b + n)) := by
              intro a' b' t d
              unfold me_ops
              constructor
              · rintro ⟨q, q0, q1, q2⟩
                by_cases hq : q = 3 * b + n
                · rw [hq] at q2
                  exact Or.inr q2
                · exact Or.inl ⟨q, q0, by omega, q2⟩
              · rintro (⟨q, q0, q1, q2⟩ | z)
                · exact ⟨q, q0, by omega, q2⟩
                · exact ⟨3 * b + n, by omega, by omega, z⟩
            by_cases ho : me_op (mY M y) (3 * b + n)
            · have ec : me_c1 (mY M y) (3 * b + n) = 1 := if_pos ho
              have ho2 := ho
              unfold me_op at ho2
              rw [mY_0] at ho2
              simp only [mY_j] at ho2
              refine jx_runL (o := jo_X13) (cs := cs_X13_gather) (hf := jx_nh) jo_X13_ok hc_X13_gather (jx_HK_nil rfl) (fun p => p == 19 || p == 84) 60 ?_
              simp only [jw, ju, jx_tg, Int.cast_ofNat_Int, Int.reduceAdd, Int.reduceToNat, Nat.reduceAdd, Nat.reduceMul, Nat.reduceBEq, Nat.reduceLeDiff, Int.reduceLE, Int.reduceLT, Int.reduceEq, Int.reduceNeg, Int.reduceSub, Int.reduceMul, not_false_eq_true, true_and, and_true, and_self, Bool.or_false, Bool.false_or, Bool.or_true, Bool.true_or, List.length_nil, List.length_cons, Nat.zero_le, or_true, true_or, Nat.le_refl, ↓reduceIte, Nat.reduceEqDiff, forall_const, false_and, and_false, false_implies, implies_true, not_true_eq_false, or_false, false_or, ne_eq, jd_X13_gather, jf_X13, q9, q6, q7, q2, js_X13_enter, js_X13_gatherTwo, cs_X13_gather, jx_ck_c]
              refine ⟨by omega, fun c => by omega, fun c => ⟨by omega, by omega, fun c2 => by omega, fun c2 => ⟨by omega, by omega, fun c3 => by omega, fun c3 => ⟨by omega, by omega, by omega, by omega, by omega, hx _ (by omega) (mEx_iff (mEx_tr k (mEy_ent (y := y) (M := M') (by omega))) (fun a' b' t d => ?_) (by omega))⟩⟩⟩⟩
              unfold mm_EU mm_E1
              rw [grow]
              exact ⟨fun z => z.elim (fun w => w.elim Or.inl (fun v => Or.inr (Or.inl v))) (fun w => Or.inr (Or.inr ⟨ho, w⟩)), fun z => z.elim (fun w => Or.inl (Or.inl w)) (fun w => w.elim (fun v => Or.inl (Or.inr v)) (fun v => Or.inr v.2))⟩
            · have ec : me_c1 (mY M y) (3 * b + n) = 0 := if_neg ho
              have ho2 := ho
              unfold me_op at ho2
              rw [mY_0] at ho2
              simp only [mY_j] at ho2
              have hz := hx M' (by omega) (mEx_iff k (fun a' b' t d => by
                unfold mm_EU
                rw [grow]
                exact ⟨fun z => z.elim Or.inl (fun v => Or.inr (Or.inl v)), fun z => z.elim Or.inl (fun w => w.elim Or.inr (fun v => absurd v.1 ho))⟩) (by omega))
              refine jx_runL (o := jo_X13) (cs := cs_X13_gather) (hf := jx_nh) jo_X13_ok hc_X13_gather (jx_HK_nil rfl) (fun p => p == 19 || p == 37 || p == 84) 60 ?_
              simp only [jw, ju, jx_tg, Int.cast_ofNat_Int, Int.reduceAdd, Int.reduceToNat, Nat.reduceAdd, Nat.reduceMul, Nat.reduceBEq, Nat.reduceLeDiff, Int.reduceLE, Int.reduceLT, Int.reduceEq, Int.reduceNeg, Int.reduceSub, Int.reduceMul, not_false_eq_true, true_and, and_true, and_self, Bool.or_false, Bool.false_or, Bool.or_true, Bool.true_or, List.length_nil, List.length_cons, Nat.zero_le, or_true, true_or, Nat.le_refl, ↓reduceIte, Nat.reduceEqDiff, forall_const, false_and, and_false, false_implies, implies_true, not_true_eq_false, or_false, false_or, ne_eq, jd_X13_gather, jf_X13, q6, js_X13_enter, js_X13_gatherTwo, cs_X13_gather, jx_ck_c]
              refine ⟨by omega, fun c => by omega, fun c => ⟨by omega, by omega, fun c2 => hz, fun c2 => ?_⟩⟩
              refine jx_runL (o := jo_X13) (cs := cs_X13_gather) (hf := jx_nh) jo_X13_ok hc_X13_gather (jx_HK_nil rfl) (fun p => p == 19 || p == 50) 60 ?_
              simp only [jw, ju, jx_tg, Int.cast_ofNat_Int, Int.reduceAdd, Int.reduceToNat, Nat.reduceAdd, Nat.reduceMul, Nat.reduceBEq, Nat.reduceLeDiff, Int.reduceLE, Int.reduceLT, Int.reduceEq, Int.reduceNeg, Int.reduceSub, Int.reduceMul, not_false_eq_true, true_and, and_true, and_self, Bool.or_false, Bool.false_or, Bool.or_true, Bool.true_or, List.length_nil, List.length_cons, Nat.zero_le, or_true, true_or, Nat.le_refl, ↓reduceIte, Nat.reduceEqDiff, forall_const, false_and, and_false, false_implies, implies_true, not_true_eq_false, or_false, false_or, ne_eq, jd_X13_gather, jf_X13, q6, q9, js_X13_enter, js_X13_gatherTwo, cs_X13_gather, jx_ck_c]
              exact ⟨by omega, by omega, fun c3 => hz, fun c3 => by omega⟩
        have q9 := (hS M' _ _ k1).1
        refine jx_runL (o := jo_X13) (cs := cs_X13_gather) (hf := jx_nh) jo_X13_ok hc_X13_gather (jx_HK_nil rfl) (fun p => p == 19) 60 ?_
        simp only [jw, ju, jx_tg, Int.cast_ofNat_Int, Int.reduceAdd, Int.reduceToNat, Nat.reduceAdd, Nat.reduceMul, Nat.reduceBEq, Nat.reduceLeDiff, Int.reduceLE, Int.reduceLT, Int.reduceEq, Int.reduceNeg, Int.reduceSub, Int.reduceMul, not_false_eq_true, true_and, and_true, and_self, Bool.or_false, Bool.false_or, Bool.or_true, Bool.true_or, List.length_nil, List.length_cons, Nat.zero_le, or_true, true_or, Nat.le_refl, ↓reduceIte, Nat.reduceEqDiff, forall_const, false_and, and_false, false_implies, implies_true, not_true_eq_false, or_false, false_or, ne_eq, jd_X13_gather, jf_X13, q9, js_X13_enter, js_X13_gatherTwo, cs_X13_gather, jx_ck_c]
        refine ⟨by omega, fun c => by omega, fun c => ?_⟩
        have := at19 3 0 M' rfl (mEx_iff k1 (fun a' b' t d => by
          unfold mm_EU me_ops
          exact ⟨Or.inl, fun z => z.elim (fun w => w) (fun ⟨q, q0, q1, _⟩ => by omega)⟩) (by
          show _ = _ + (0 : Int)
          omega))
        rw [show 3 * (b : Int) + ((0 : Nat) : Int) = 3 * b by omega] at this
        exact this
    refine jx_runL (o := jo_X13) (cs := cs_X13_gather) (hf := jx_nh) jo_X13_ok hc_X13_gather (jx_HK_nil rfl) (fun p => p == 7) 60 ?_
    simp only [jw, ju, jx_tg, Int.cast_ofNat_Int, Int.reduceAdd, Int.reduceToNat, Nat.reduceAdd, Nat.reduceMul, Nat.reduceBEq, Nat.reduceLeDiff, Int.reduceLE, Int.reduceLT, Int.reduceEq, Int.reduceNeg, Int.reduceSub, Int.reduceMul, not_false_eq_true, true_and, and_true, and_self, Bool.or_false, Bool.false_or, Bool.or_true, Bool.true_or, List.length_nil, List.length_cons, Nat.zero_le, or_true, true_or, Nat.le_refl, ↓reduceIte, Nat.reduceEqDiff, forall_const, false_and, and_false, false_implies, implies_true, not_true_eq_false, or_false, false_or, ne_eq, jd_X13_gather, jf_X13, js_X13_enter, js_X13_gatherTwo, cs_X13_gather, jx_ck_c]
    rw [← hM0]
    exact outer (M y 9).toNat 0 _ M0 (by omega) (mEx_iff mEx_rf (fun a' b' t d => ⟨fun z => z.elim, fun ⟨q, q0, q1, _⟩ => by omega⟩) rfl)
  · exact hS.elim
