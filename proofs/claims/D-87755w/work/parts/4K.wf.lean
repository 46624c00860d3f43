/-! the body as it always is; what is the same where only scratch differs -/
set_option maxRecDepth 100000
def mm_nop (s : Int) : Int := if s = 0 then 0 else if s = 4 then 1 else if s = 6 then 3 else 2
def mB (S : jx_M) : Prop := (0 ≤ S 0 9 ∧ S 0 9 ≤ 16) ∧ (0 ≤ S 0 15 ∧ S 0 15 ≤ 40) ∧
  (∀ a, 0 ≤ a → a < S 0 9 → (0 ≤ S 1 a ∧ S 1 a ≤ 6) ∧ (1 ≤ S 2 a ∧ S 2 a ≤ 12) ∧ (0 ≤ S 3 a ∧ S 3 a ≤ 5) ∧ (1 ≤ S 4 a ∧ S 4 a ≤ 255) ∧ (-1 ≤ S 5 a ∧ S 5 a ≤ 7) ∧ ((S 1 a = 4 ∨ S 1 a = 5) ↔ 0 ≤ S 5 a)) ∧
  (∀ a i, 0 ≤ a → a < S 0 9 → 0 ≤ i → i < 3 → (i < mm_nop (S 1 a) → (0 ≤ S 6 (3 * a + i) ∧ S 6 (3 * a + i) ≤ 15) ∧ (0 ≤ S 7 (3 * a + i) ∧ S 7 (3 * a + i) ≤ 4) ∧ (S 7 (3 * a + i) = 0 → S 6 (3 * a + i) < a)) ∧ (mm_nop (S 1 a) ≤ i → S 6 (3 * a + i) = -1 ∧ S 7 (3 * a + i) = -1)) ∧
  (∀ e, 0 ≤ e → e < S 0 15 → (0 ≤ S 11 e ∧ S 11 e < S 0 9) ∧ (0 ≤ S 12 e ∧ S 12 e < S 0 9) ∧ (-50 ≤ S 13 e ∧ S 13 e ≤ 50) ∧ (0 ≤ S 14 e ∧ S 14 e ≤ 4)) ∧ mm_uok S
theorem mB_op {S : jx_M} (h : mB S) {k : Int} (k0 : 0 ≤ k) (k1 : k < 3 * S 0 9) : (0 ≤ S 6 k ∧ S 6 k ≤ 15 ∧ 0 ≤ S 7 k ∧ S 7 k ≤ 4) ∨ (S 6 k = -1 ∧ S 7 k = -1) := by
  have := h.2.2.2.1 (k / 3) (k % 3) (by omega) (by omega) (by omega) (by omega)
  rw [show 3 * (k / 3) + k % 3 = k by omega] at this
  by_cases c : k % 3 < mm_nop (S 1 (k / 3))
  · have := this.1 c
    exact Or.inl ⟨this.1.1, this.1.2, this.2.1.1, this.2.1.2⟩
  · exact Or.inr (this.2 (by omega))
theorem mB_W {S : jx_M} (h : mB S) : me_W S := ⟨h.1, h.2.1, fun a a0 a1 => ⟨(h.2.2.1 a a0 a1).1, (h.2.2.1 a a0 a1).2.2.2.2.1⟩, fun k k0 k1 => by rcases mB_op h k0 k1 with q | q <;> omega⟩
theorem mB_ofs {S : jx_M} (h : mB S) : mm_ofs S := fun k k0 k1 => by rcases mB_op h k0 k1 with q | q <;> omega
theorem mB_up {S : jx_M} (h : mB S) : mm_up S := fun a a0 a1 => ⟨(h.2.2.1 a a0 a1).2.2.1, (h.2.2.1 a a0 a1).2.2.2.1⟩
theorem mm_nop_r {s : Int} (h : 0 ≤ s ∧ s ≤ 6) : (s = 0 → mm_nop s = 0) ∧ (s = 1 → mm_nop s = 2) ∧ (s = 2 → mm_nop s = 2) ∧ (s = 3 → mm_nop s = 2) ∧ (s = 4 → mm_nop s = 1) ∧ (s = 5 → mm_nop s = 2) ∧ (s = 6 → mm_nop s = 3) := by
  refine ⟨?_, ?_, ?_, ?_, ?_, ?_, ?_⟩ <;> (rintro rfl; decide)
theorem mB_act {S : jx_M} (h : mB S) {a : Int} (a0 : 0 ≤ a) (a1 : a < S 0 9) : mm_act S a := by
  have w := h.2.2.1 a a0 a1
  have hn := mm_nop_r w.1
  have o := h.2.2.2.1 a
  have o0 := o 0 a0 a1 (by omega) (by omega)
  have o1 := o 1 a0 a1 (by omega) (by omega)
  have o2 := o 2 a0 a1 (by omega) (by omega)
  have ok : ∀ i, (i < mm_nop (S 1 a) → (0 ≤ S 6 (3 * a + i) ∧ S 6 (3 * a + i) ≤ 15) ∧ (0 ≤ S 7 (3 * a + i) ∧ S 7 (3 * a + i) ≤ 4) ∧ (S 7 (3 * a + i) = 0 → S 6 (3 * a + i) < a)) → i < mm_nop (S 1 a) → mm_ok1 S a i := fun i q1 q2 => ⟨⟨(q1 q2).1.1, by have := (q1 q2).1.2; omega⟩, (q1 q2).2.1⟩
  refine ⟨w.1, fun c => ⟨w.2.2.2.2.2.mp c, by omega⟩, fun c => ok 0 o0.1 (by omega), fun c => ?_, fun c => ok 2 o2.1 (by omega), fun c => (o1.2 (by omega)).1, fun c => (o1.1 (by omega)).1.1⟩
  refine ok 1 o1.1 ?_
  apply Classical.byContradiction
  intro z
  have := (o1.2 (by omega)).1
  omega
/-- every edge lies within bounds -/
theorem me_all_r {S : jx_M} (h : mB S) {a b t d : Int} (he : me_all S a b t d) : (0 ≤ a ∧ a < S 0 9) ∧ (0 ≤ b ∧ b < S 0 9) ∧ (-50 ≤ t ∧ t ≤ 50) ∧ (0 ≤ d ∧ d ≤ 4) := by
  rcases he with ⟨q, q0, q1, q2⟩ | ⟨e, e0, e1, rfl, rfl, rfl, rfl⟩
  · rcases q2 with ⟨k, k0, k1, ⟨k2, k3⟩, rfl, rfl, rfl, rfl⟩ | ⟨_, rfl, rfl, rfl, rfl⟩ | ⟨c, c0, c1, c2⟩
    · have w := h.2.2.1 (S 6 k) k2 k3
      rcases mB_op h (k := k) (by omega) (by omega) with z | z
      · omega
      · omega
    · omega
    · rcases c2 with ⟨_, z | z⟩ | ⟨_, z | z⟩ <;> omega
  · exact h.2.2.2.2.1 e e0 e1
theorem mEg_eok {y : Int} {M M' : jx_M} (hB : mB (mY M y)) (h : mEg y M M') : mm_eok (M y 9) y M' ∧ mm_eok 16 y M' := by
  have hn := me_n_r (S := mY M y) hB.1
  have ht := hB.2.1
  have h9 := hB.1
  rw [mY_0] at ht h9
  have hr : 0 ≤ M' y 20 ∧ M' y 20 ≤ 704 := by rw [h.1]; omega
  have key : ∀ e, 0 ≤ e → e < M' y 20 → (0 ≤ M' (y + 15) e ∧ M' (y + 15) e < M y 9) ∧ (0 ≤ M' (y + 16) e ∧ M' (y + 16) e < M y 9) ∧ (-50 ≤ M' (y + 17) e ∧ M' (y + 17) e ≤ 50) ∧ (0 ≤ M' (y + 18) e ∧ M' (y + 18) e ≤ 4) := fun e e0 e1 => by
    have := me_all_r hB (h.2.1.1 e e0 e1)
    rw [mY_0] at this
    exact this
  exact ⟨⟨hr, key⟩, hr, fun e e0 e1 => by have := key e e0 e1; omega⟩
/-- states that differ in scratch alone -/
theorem mQ_j {S S' : jx_M} (h : mQ S S') (j : Int) (hj : 1 ≤ j ∧ j < 33 ∧ ¬ (15 ≤ j ∧ j ≤ 18) ∧ j ≠ 20 ∧ ¬ (28 ≤ j ∧ j ≤ 30)) : S' j = S j := by
  funext k
  exact h j k (by omega) (by omega) (by omega) (by omega) (by omega) (by omega)
theorem mQ_0 {S S' : jx_M} (h : mQ S S') {k : Int} (hk : k ≠ 20) : S' 0 k = S 0 k := h 0 k (by omega) (by omega) (by omega) (by omega) (by omega) (by omega)
/-- the same body -/
def mZ (S S' : jx_M) : Prop := (∀ j : Int, 1 ≤ j → j < 15 → S' j = S j) ∧ S' 0 9 = S 0 9 ∧ S' 0 15 = S 0 15
theorem mQ_Z {S S' : jx_M} (h : mQ S S') : mZ S S' := ⟨fun j a b => mQ_j h j (by omega), mQ_0 h (by decide), mQ_0 h (by decide)⟩
theorem mZ_rf {S : jx_M} : mZ S S := ⟨fun _ _ _ => rfl, rfl, rfl⟩
theorem mZ_tr {S S' S'' : jx_M} (h : mZ S S') (h' : mZ S' S'') : mZ S S'' := ⟨fun j a b => (h'.1 j a b).trans (h.1 j a b), h'.2.1.trans h.2.1, h'.2.2.trans h.2.2⟩
theorem mZ_0 {S S' : jx_M} {k v : Int} (h : mZ S S') (hk : k ≠ 9 ∧ k ≠ 15) : mZ S (jx_u S' 0 k v) :=
  ⟨fun j a b => by rw [← h.1 j a b]; funext i; exact jx_u_a _ _ _ _ _ _ (by omega), by rw [jx_u_j _ _ _ _ _ _ (fun q => hk.1 q.symm)]; exact h.2.1, by rw [jx_u_j _ _ _ _ _ _ (fun q => hk.2 q.symm)]; exact h.2.2⟩
theorem mZ_j {S S' : jx_M} {j k v : Int} (h : mZ S S') (hj : 15 ≤ j) : mZ S (jx_u S' j k v) :=
  ⟨fun i a b => by rw [← h.1 i a b]; funext q; exact jx_u_a _ _ _ _ _ _ (by omega), by rw [jx_u_a _ _ _ _ _ _ (by omega)]; exact h.2.1, by rw [jx_u_a _ _ _ _ _ _ (by omega)]; exact h.2.2⟩
theorem mm_byU_Z {S S' : jx_M} (h : mZ S S') : mm_byU S' = mm_byU S := by
  have e : mm_ub1 S' = mm_ub1 S := by
    funext k a
    unfold mm_ub1
    rw [h.1 3 (by decide) (by decide), h.1 4 (by decide) (by decide)]
  have e2 : mm_need S' = mm_need S := by
    funext k
    unfold mm_need mm_ub
    rw [e, h.2.1, h.1 10 (by decide) (by decide)]
  unfold mm_byU
  rw [e2]
theorem me_all_Z {S S' : jx_M} (h : mZ S S') : me_all S' = me_all S := by
  have e1 := h.1 1 (by decide) (by decide)
  have e5 := h.1 5 (by decide) (by decide)
  have e9 : S' 0 9 = S 0 9 := h.2.1
  have e15 : S' 0 15 = S 0 15 := h.2.2
  have b : me_b S' = me_b S := by
    funext b
    unfold me_b me_ops me_op me_tws me_two me_rw me_bh
    simp only [e1, e5, e9, h.1 2 (by decide) (by decide), h.1 6 (by decide) (by decide), h.1 7 (by decide) (by decide)]
  unfold me_all me_body me_tld
  simp only [b, e9, e15, h.1 11 (by decide) (by decide), h.1 12 (by decide) (by decide), h.1 13 (by decide) (by decide), h.1 14 (by decide) (by decide)]
theorem mB_Z {S S' : jx_M} (h : mZ S S') (hB : mB S) : mB S' := by
  unfold mB mm_uok at *
  simp only [h.2.1, h.2.2, h.1 1 (by decide) (by decide), h.1 2 (by decide) (by decide), h.1 3 (by decide) (by decide), h.1 4 (by decide) (by decide), h.1 5 (by decide) (by decide), h.1 6 (by decide) (by decide), h.1 7 (by decide) (by decide), h.1 10 (by decide) (by decide), h.1 11 (by decide) (by decide), h.1 12 (by decide) (by decide), h.1 13 (by decide) (by decide), h.1 14 (by decide) (by decide)]
  exact hB
theorem me_n_Z {S S' : jx_M} (h : mZ S S') : me_n S' = me_n S := by
  have e1 := h.1 1 (by decide) (by decide)
  have e5 := h.1 5 (by decide) (by decide)
  have e6 := h.1 6 (by decide) (by decide)
  have e9 : S' 0 9 = S 0 9 := h.2.1
  have c1 : me_c1 S' = me_c1 S := by
    funext k
    unfold me_c1
    rw [show me_op S' k = me_op S k by unfold me_op; rw [e6, e9]]
  have co : ∀ b n, me_co S' b n = me_co S b n := by
    intro b n
    induction n with
    | zero => rfl
    | succ n ih => unfold me_co; rw [ih, c1]
  have cn : me_cn S' = me_cn S := by
    funext a b
    unfold me_cn
    rw [show me_rw S' a b = me_rw S a b by unfold me_rw; rw [e1, e5], show me_bh S' a b = me_bh S a b by unfold me_bh; rw [e1]]
  have cb : me_cb S' = me_cb S := by
    funext b
    unfold me_cb me_ct
    rw [co, e1, cn, e9]
  unfold me_n
  rw [cb, e9]
/-- the beat by edges alone -/
def mm_wt (b : Int) : Int → Int → Int → Int → Int := fun _ _ t d => t - b * d
def mm_Rg (S : jx_M) (b : Int) : Prop := ∃ f, mm_SolE (S 0 9) (me_all S) (mm_wt b) f
noncomputable def mm_lw (S : jx_M) : Int := max (mm_byU S) (mm_fst (mm_Rg S) 100000 60 1)
theorem mm_lw_Z {S S' : jx_M} (h : mZ S S') : mm_lw S' = mm_lw S := by
  have e : mm_Rg S' = mm_Rg S := by
    funext b
    unfold mm_Rg
    rw [me_all_Z h, h.2.1]
  unfold mm_lw
  rw [e, mm_byU_Z h]
theorem mm_ready_Z {S S' : jx_M} (h : mZ S S') : mm_ready S' ↔ mm_ready S := by
  unfold mm_ready mm_whole
  rw [h.2.1, h.1 6 (by decide) (by decide)]
theorem ms_go_Z {S S' : jx_M} (h : mZ S S') (b : Int) : ∀ (f : Nat) (a : Int) (T : Int → Int) (tr : Int), ms_go S' b f a T tr = ms_go S b f a T tr := by
  have ef : ∀ T n, mm_fits S' T n b ↔ mm_fits S T n b := fun T n => by
    have e : mm_fb S' = mm_fb S := by
      funext T b k t a
      unfold mm_fb
      rw [h.1 3 (by decide) (by decide), h.1 4 (by decide) (by decide)]
    unfold mm_fits mm_fl
    rw [e, h.1 10 (by decide) (by decide)]
  have eo : ∀ n T, ms_ok S' b n T = ms_ok S b n T := fun n T => by
    unfold ms_ok
    rw [me_all_Z h]
    exact propext (and_congr (ef T n) Iff.rfl)
  intro f
  induction f with
  | zero => intro a T tr; rfl
  | succ f ih =>
    intro a T tr
    unfold ms_go
    rw [ih, ih, ih, eo, h.2.1]
theorem mEg_Q {y : Int} {M M' : jx_M} (h : mEg y M M') : mQ (mY M y) (mY M' y) := fun j k a b c d e f => h.2.2 (y + j) k (by omega) (by omega) (by omega) (by omega) (by omega)
theorem mPf_Q {y : Int} {M M' : jx_M} (h : mPf y M M') : mQ (mY M y) (mY M' y) := fun j k a b c d e f => h (y + j) k (by omega)
theorem mEg_Fr {y : Int} {M M' : jx_M} (h : mEg y M M') : mFr y M M' := fun z i q => h.2.2 z i (by omega) (by omega) (by omega) (by omega) (by omega)
theorem mPf_Fr {y : Int} {M M' : jx_M} (h : mPf y M M') : mFr y M M' := fun z i q => h z i (by omega)
/-- what lowestBeat leaves: edges stand, some pushed -/
def mGo (y : Int) (M M' : jx_M) : Prop := mm_std y (mY M y) M' ∧ (mm_eok (M y 9) y M' ∧ mm_eok 16 y M') ∧ ∀ z k : Int, z ≠ y + 15 → z ≠ y + 16 → z ≠ y + 17 → z ≠ y + 18 → z ≠ y + 28 → ¬ (z = y ∧ k = 20) → M' z k = M z k
theorem mGo_of {y : Int} {M M1 M2 : jx_M} (hB : mB (mY M y)) (h1 : mEg y M M1) (h2 : mPf y M1 M2) : mGo y M M2 := by
  have e := mEg_eok hB h1
  refine ⟨?_, ⟨mm_eok_P h2 e.1, mm_eok_P h2 e.2⟩, fun z k a b c d f g => (h2 z k f).trans (h1.2.2 z k a b c d g)⟩
  unfold mm_std
  rw [mPf_0 h2, mPf_j h2 (by decide), mPf_j h2 (by decide), mPf_j h2 (by decide), mPf_j h2 (by decide)]
  exact h1.2.1
theorem mGo_Q {y : Int} {M M' : jx_M} (h : mGo y M M') : mQ (mY M y) (mY M' y) := fun j k a b c d e f => h.2.2 (y + j) k (by omega) (by omega) (by omega) (by omega) (by omega) (by omega)
theorem mGo_Fr {y : Int} {M M' : jx_M} (h : mGo y M M') : mFr y M M' := fun z i q => h.2.2 z i (by omega) (by omega) (by omega) (by omega) (by omega) (by omega)
def js_X13_lowestBeat : jx_Sp := fun as g M Po => match as with
  | [(73, _, y)] => (mB (mY M y) ∧ 1 ≤ M y 9) ∧ ∀ M', mGo y M M' → Po (0, 0, mm_lw (mY M y)) g M'
  | _ => False
def cs_X13_lowestBeat : jx_Cs := [(531, 1, 0, 0, js_X13_gather), (612, 1, 0, 0, js_X13_byUnits), (621, 1, 0, 0, js_X13_byRings)]
theorem hc_X13_lowestBeat {D : jx_D} {l : Launch} : jx_CsOK D l "LoopLaneModel" 3 cs_X13_lowestBeat := List.forall_mem_cons.mpr ⟨jc_X13_177 (jt_X13_gather l) (fun as g M Po (h : js_X13_gather as g M Po) => by unfold js_X13_gather at h; split at h <;> first | exact h.elim | exact ⟨_, _, _, rfl, rfl⟩) (by decide), List.forall_mem_cons.mpr ⟨jc_X13_204 (jt_X13_byUnits l) (fun as g M Po (h : js_X13_byUnits as g M Po) => by unfold js_X13_byUnits at h; split at h <;> first | exact h.elim | exact ⟨_, _, _, rfl, rfl⟩) (by decide), List.forall_mem_cons.mpr ⟨jc_X13_207 (jt_X13_byRings l) (fun as g M Po (h : js_X13_byRings as g M Po) => by unfold js_X13_byRings at h; split at h <;> first | exact h.elim | exact ⟨_, _, _, rfl, rfl⟩) (by decide), fun _ h => absurd h List.not_mem_nil⟩⟩⟩
set_option maxHeartbeats 4000000 in
theorem jt_X13_lowestBeat (l : Launch) : jx_Ct l yX13_lowestBeat (ws_ yX13_lowestBeat cX13_lowestBeat 3 (some .int)) 3 0 0 js_X13_lowestBeat := by
  refine jx_Ct_c (rc := 0) (by decide) rfl (fun D as g M Po hS => ?_)
  unfold js_X13_lowestBeat at hS
  split at hS
  · rename_i n1 y
    obtain ⟨⟨hB, h0⟩, hP⟩ := hS
    refine ⟨Nat.le_of_ble_eq_true rfl, ?_⟩
    have h9 := hB.1
    rw [mY_0] at h9
    have hur := mm_byU_r hB.1 hB.2.2.2.2.2
    refine jx_runL (o := jo_X13) (cs := cs_X13_lowestBeat) (hf := jx_nh) jo_X13_ok hc_X13_lowestBeat (jx_HK_nil rfl) (fun p => p == 4) 60 ?_
    simp only [jw, ju, jx_tg, Int.cast_ofNat_Int, Int.reduceAdd, Int.reduceToNat, Nat.reduceAdd, Nat.reduceMul, Nat.reduceBEq, Nat.reduceLeDiff, Int.reduceLE, Int.reduceLT, Int.reduceEq, Int.reduceNeg, Int.reduceSub, Int.reduceMul, not_false_eq_true, true_and, and_true, and_self, Bool.or_false, Bool.false_or, Bool.or_true, Bool.true_or, List.length_nil, List.length_cons, Nat.zero_le, or_true, true_or, Nat.le_refl, ↓reduceIte, Nat.reduceEqDiff, forall_const, false_and, and_false, false_implies, implies_true, not_true_eq_false, or_false, false_or, ne_eq, jd_X13_lowestBeat, jf_X13, js_X13_byRings, js_X13_byUnits, js_X13_gather, cs_X13_lowestBeat, jx_ck_c]
    refine ⟨mB_W hB, fun M1 k1 => ?_⟩
    have q1 := mEg_Q k1
    have e9 : M1 y 9 = M y 9 := by have := mQ_0 q1 (k := 9) (by decide); rw [mY_0, mY_0] at this; exact this
    have z1 := mQ_Z q1
    have B1 := mB_Z z1 hB
    have eb : mm_fst (fun b => ∃ f, mm_Sol (M1 y 9) (M1 y 20) (M1 (y + 15)) (M1 (y + 16)) (mm_wr y b M1) f) 100000 60 1 = mm_fst (mm_Rg (mY M y)) 100000 60 1 := by
      congr 1
      funext b
      unfold mm_Rg
      rw [mY_0, e9]
      apply propext
      have : ∀ f, mm_Sol (M y 9) (M1 y 20) (M1 (y + 15)) (M1 (y + 16)) (mm_wr y b M1) f ↔ mm_SolE (M y 9) (me_all (mY M y)) (mm_wt b) f := fun f => mm_sol_E (w := mm_wt b) k1.2.1
      exact ⟨fun ⟨f, z⟩ => ⟨f, (this f).mp z⟩, fun ⟨f, z⟩ => ⟨f, (this f).mpr z⟩⟩
    have hfr : 1 ≤ mm_fst (mm_Rg (mY M y)) 100000 60 1 ∧ mm_fst (mm_Rg (mY M y)) 100000 60 1 ≤ 100000 := by
      rcases mm_fst_spec (mm_Rg (mY M y)) 100000 60 1 with q | q <;> omega
    refine jx_runL (o := jo_X13) (cs := cs_X13_lowestBeat) (hf := jx_nh) jo_X13_ok hc_X13_lowestBeat (jx_HK_nil rfl) (fun _ => false) 60 ?_
    simp only [jw, ju, jx_tg, Int.cast_ofNat_Int, Int.reduceAdd, Int.reduceToNat, Nat.reduceAdd, Nat.reduceMul, Nat.reduceBEq, Nat.reduceLeDiff, Int.reduceLE, Int.reduceLT, Int.reduceEq, Int.reduceNeg, Int.reduceSub, Int.reduceMul, not_false_eq_true, true_and, and_true, and_self, Bool.or_false, Bool.false_or, Bool.or_true, Bool.true_or, List.length_nil, List.length_cons, Nat.zero_le, or_true, true_or, Nat.le_refl, ↓reduceIte, Nat.reduceEqDiff, forall_const, false_and, and_false, false_implies, implies_true, not_true_eq_false, or_false, false_or, ne_eq, jd_X13_lowestBeat, jf_X13, js_X13_byRings, js_X13_byUnits, js_X13_gather, cs_X13_lowestBeat, jx_ck_c]
    rw [eb, mm_byU_Z z1]
    refine ⟨⟨by omega, mB_up B1, B1.2.2.2.2.2⟩, ⟨by omega, by rw [e9]; exact (mEg_eok hB k1).1⟩, fun M2 k2 => ⟨by omega, fun c => ?_, fun c => ?_⟩⟩
    · have := hP M2 (mGo_of hB k1 k2)
      unfold mm_lw at this
      rw [show max (mm_byU (mY M y)) (mm_fst (mm_Rg (mY M y)) 100000 60 1) = mm_fst (mm_Rg (mY M y)) 100000 60 1 by omega] at this
      exact this
    · have := hP M2 (mGo_of hB k1 k2)
      unfold mm_lw at this
      rw [show max (mm_byU (mY M y)) (mm_fst (mm_Rg (mY M y)) 100000 60 1) = mm_byU (mY M y) by omega] at this
      exact this
  · exact hS.elim
theorem mm_lw_r {S : jx_M} (hB : mB S) : 1 ≤ mm_lw S ∧ mm_lw S ≤ 100000 := by
  have hur := mm_byU_r hB.1 hB.2.2.2.2.2
  have hfr : 1 ≤ mm_fst (mm_Rg S) 100000 60 1 ∧ mm_fst (mm_Rg S) 100000 60 1 ≤ 100000 := by
    rcases mm_fst_spec (mm_Rg S) 100000 60 1 with q | q <;> omega
  unfold mm_lw
  omega
noncomputable def f_lowest (S : jx_M) : mR := @ite _ (mm_ready S) (Classical.propDecidable _) (if mm_lw S ≤ 60 then (mm_lw S, S) else mno (-9) S) (mno (-2) S)
def js_X13_lowest : jx_Sp := fun as g M Po => match as with
  | [(73, _, y)] => mB (mY M y) ∧ mK y g M Po 0 (f_lowest (mY M y)).1 (f_lowest (mY M y)).2
  | _ => False
theorem mQ_no {S S' : jx_M} {w : Int} (h : mQ S S') : mQ (mu_no S 0 w) (mu_no S' 0 w) := by
  unfold mu_no
  rw [mQ_j h (0 + 23) (by omega)]
  exact mQ_u (mQ_u h _ _ _) _ _ _
def cs_X13_lowest : jx_Cs := [(630, 1, 0, 0, js_X13_isReady), (372, 2, 0, 0, js_X13_no), (642, 1, 0, 0, js_X13_lowestBeat)]
theorem hc_X13_lowest {D : jx_D} {l : Launch} : jx_CsOK D l "LoopLaneModel" 4 cs_X13_lowest := List.forall_mem_cons.mpr ⟨jc_X13_210 (jt_X13_isReady l) (fun as g M Po (h : js_X13_isReady as g M Po) => by unfold js_X13_isReady at h; split at h <;> first | exact h.elim | exact ⟨_, _, _, rfl, rfl⟩) (by decide), List.forall_mem_cons.mpr ⟨jc_X13_124 (jt_X13_no l) (fun as g M Po (h : js_X13_no as g M Po) => by unfold js_X13_no at h; split at h <;> first | exact h.elim | exact ⟨_, _, _, rfl, rfl⟩) (by decide), List.forall_mem_cons.mpr ⟨jc_X13_214 (jt_X13_lowestBeat l) (fun as g M Po (h : js_X13_lowestBeat as g M Po) => by unfold js_X13_lowestBeat at h; split at h <;> first | exact h.elim | exact ⟨_, _, _, rfl, rfl⟩) (by decide), fun _ h => absurd h List.not_mem_nil⟩⟩⟩
set_option maxHeartbeats 4000000 in
theorem jt_X13_lowest (l : Launch) : jx_Ct l yX13_lowest (ws_ yX13_lowest cX13_lowest 2 (some .int)) 4 0 0 js_X13_lowest := by
  refine jx_Ct_c (rc := 0) (by decide) rfl (fun D as g M Po hS => ?_)
  unfold js_X13_lowest at hS
  split at hS
  · rename_i n1 y
    obtain ⟨hB, hK⟩ := hS
    unfold f_lowest at hK
    simp only [mK_ite, mno] at hK
    refine ⟨Nat.le_of_ble_eq_true rfl, ?_⟩
    have h9 := hB.1
    rw [mY_0] at h9
    have hlr := mm_lw_r hB
    refine jx_runL (o := jo_X13) (cs := cs_X13_lowest) (hf := jx_nh) jo_X13_ok hc_X13_lowest (jx_HK_nil rfl) (fun _ => false) 60 ?_
    simp only [jw, ju, jx_tg, Int.cast_ofNat_Int, Int.reduceAdd, Int.reduceToNat, Nat.reduceAdd, Nat.reduceMul, Nat.reduceBEq, Nat.reduceLeDiff, Int.reduceLE, Int.reduceLT, Int.reduceEq, Int.reduceNeg, Int.reduceSub, Int.reduceMul, not_false_eq_true, true_and, and_true, and_self, Bool.or_false, Bool.false_or, Bool.or_true, Bool.true_or, List.length_nil, List.length_cons, Nat.zero_le, or_true, true_or, Nat.le_refl, ↓reduceIte, Nat.reduceEqDiff, forall_const, false_and, and_false, false_implies, implies_true, not_true_eq_false, or_false, false_or, ne_eq, jd_X13_lowest, jf_X13, js_X13_isReady, js_X13_lowestBeat, js_X13_no, cs_X13_lowest, jx_ck_c]
    refine ⟨⟨h9, mB_ofs hB⟩, fun c => ?_, fun c => mK_no (hK.2 c)⟩
    have h0 := c.1
    rw [mY_0] at h0
    refine ⟨⟨hB, by omega⟩, fun M' k => ⟨by omega, fun c2 => (hK.1 c).1 c2 M' (mGo_Q k) (mGo_Fr k), fun c2 => (hK.1 c).2 c2 _ ?_ (mFr_no (mGo_Fr k))⟩⟩
    have e : mY (mu_no M' y (-9)) y = mu_no (mY M' y) 0 (-9) := mY_no
    have := mQ_no (w := -9) (mGo_Q k)
    rw [← e] at this
    exact this
  · exact hS.elim
