/-! the reference: its constructor -/
set_option maxRecDepth 100000
/-- the arrays of the reference: kind, length; the field that holds it -/
def jy_k : Nat → Nat × Int
  | 1 => (10, 16)
  | 2 => (10, 16)
  | 3 => (10, 16)
  | 4 => (10, 16)
  | 5 => (10, 16)
  | 6 => (10, 48)
  | 7 => (10, 48)
  | 8 => (11, 16)
  | 9 => (11, 16)
  | 10 => (10, 6)
  | 11 => (10, 40)
  | 12 => (10, 40)
  | 13 => (10, 40)
  | 14 => (10, 40)
  | 15 => (10, 704)
  | 16 => (10, 704)
  | 17 => (10, 704)
  | 18 => (10, 704)
  | 19 => (11, 320)
  | 20 => (11, 320)
  | 21 => (10, 8)
  | 22 => (12, 8)
  | 23 => (10, 12)
  | 24 => (10, 16)
  | 25 => (10, 16)
  | 26 => (10, 16)
  | 27 => (10, 16)
  | 28 => (10, 16)
  | 29 => (10, 16)
  | 30 => (10, 60)
  | 31 => (10, 6)
  | 32 => (11, 3216)
  | _ => (0, 0)
def jy_j : Nat → Int
  | 1 => 0
  | 2 => 1
  | 3 => 2
  | 4 => 3
  | 5 => 4
  | 6 => 5
  | 7 => 6
  | 8 => 7
  | 9 => 8
  | 10 => 10
  | 11 => 11
  | 12 => 12
  | 13 => 13
  | 14 => 14
  | 15 => 16
  | 16 => 17
  | 17 => 18
  | 18 => 19
  | 19 => 21
  | 20 => 22
  | 21 => 23
  | 22 => 24
  | 23 => 25
  | 24 => 28
  | 25 => 29
  | 26 => 30
  | 27 => 31
  | 28 => 33
  | 29 => 34
  | 30 => 35
  | 31 => 36
  | 32 => 37
  | _ => -1
theorem jy_inj : ∀ i, i < 33 → ∀ j, j < i → 1 ≤ j → jy_j j ≠ jy_j i := by decide +kernel
/-- fields of the reference that are no arrays -/
abbrev jy_n (f : Int) : Prop := f = 9 ∨ f = 15 ∨ f = 20 ∨ f = 26 ∨ f = 27 ∨ f = 32 ∨ (38 ≤ f ∧ f ≤ 44)
theorem jy_nj : ∀ i, i < 33 → 1 ≤ i → ¬ jy_n (jy_j i) := by decide +kernel
/-- so many arrays are made -/
def jy_P (g : jx_S) (M : jx_M) (y : Int) (i : Nat) (g' : jx_S) (M' : jx_M) : Prop :=
  (g'.1 : Int) = y + 1 + i ∧ g'.2 y = (53, 0) ∧ (∀ z, z < y → g'.2 z = g.2 z) ∧ (∀ j : Nat, 1 ≤ j → j ≤ i → g'.2 (y + j) = jy_k j) ∧ (∀ j : Nat, 1 ≤ j → j ≤ i → M' y (jy_j j) = y + j) ∧ (∀ j : Nat, 1 ≤ j → j ≤ i → ∀ c, M' (y + j) c = 0) ∧
  (∀ f, jy_n f → M' y f = M y f) ∧ (∀ z f, z < y → M' z f = M z f)
theorem jy_P0 {g : jx_S} {M : jx_M} {y : Int} (h : g.2 y = (53, 0)) (h1 : (g.1 : Int) = y + 1) : jy_P g M y 0 g M :=
  ⟨by omega, h, fun _ _ => rfl, fun j a b => by omega, fun j a b => by omega, fun j a b => by omega, fun _ _ => rfl, fun _ _ _ => rfl⟩
theorem jy_P_s {g g' : jx_S} {M M' : jx_M} {y n : Int} {i kA : Nat} {j : Nat} (h : jy_P g M y i g' M') (hi : i < 32) (hk : jy_k (i + 1) = (kA, n)) (hj : jy_j (i + 1) = (j : Int)) (hA : kA = 10 ∨ kA = 11 ∨ kA = 12) :
    jy_P g M y (i + 1) (jx_gp g' kA n) (jx_u (jx_fr M' g'.1 kA) y j g'.1) := by
  obtain ⟨a1, a2, a3, a4, a5, a6, a7, a8⟩ := h
  have hsh : ∀ z, (jx_gp g' kA n).2 z = if z = (g'.1 : Int) then (kA, n) else g'.2 z := fun _ => rfl
  have hfr : ∀ z c, jx_fr M' g'.1 kA z c = if z = (g'.1 : Int) then 0 else M' z c := fun z c => by
    unfold jx_fr
    have : jx_df kA c = 0 := by rcases hA with e | e | e <;> (rw [e]; rfl)
    rw [this]
  have e1 : (g'.1 : Int) = y + ((i + 1 : Nat) : Int) := by omega
  refine ⟨?_, ?_, fun z hz => ?_, fun q q0 q1 => ?_, fun q q0 q1 => ?_, fun q q0 q1 c => ?_, fun f hf => ?_, fun z f hz => ?_⟩
  · show ((g'.1 + 1 : Nat) : Int) = _
    omega
  · rw [hsh, if_neg (by omega)]; exact a2
  · rw [hsh, if_neg (by omega)]; exact a3 z hz
  · rw [hsh]
    by_cases c : q = i + 1
    · rw [c, if_pos e1.symm, hk]
    · rw [if_neg (by omega)]; exact a4 q q0 (by omega)
  · by_cases c : q = i + 1
    · rw [c, hj, jx_u_eq]; exact e1
    · rw [jx_u_j _ _ _ _ _ _ (by rw [← hj]; exact jy_inj (i + 1) (by omega) q (by omega) q0), hfr, if_neg (by omega)]
      exact a5 q q0 (by omega)
  · rw [jx_u_a _ _ _ _ _ _ (by omega), hfr]
    by_cases c' : q = i + 1
    · rw [if_pos (by rw [c']; exact e1.symm)]
    · rw [if_neg (by omega)]; exact a6 q q0 (by omega) c
  · rw [jx_u_j _ _ _ _ _ _ (by rw [← hj]; intro e; rw [e] at hf; exact jy_nj (i + 1) (by omega) (by omega) hf), hfr, if_neg (by omega)]
    exact a7 f hf
  · rw [jx_u_a _ _ _ _ _ _ (by omega), hfr, if_neg (by omega)]
    exact a8 z f hz
/-- the arrays are made, the object is finished -/
def jy_E (g : jx_S) (M : jx_M) (y : Int) (g' : jx_S) (M' : jx_M) : Prop :=
  (g'.1 : Int) = y + 33 ∧ (∀ z, z < y → g'.2 z = g.2 z) ∧ (∀ z f, z < y → M' z f = M z f) ∧ (∀ f, jy_n f → M' y f = M y f) ∧ (∀ j, 1 ≤ j → j ≤ 32 → j ≠ 10 → ∀ c, M' (y + j) c = 0)
theorem jy_ref {g : jx_S} {M : jx_M} {y n off : Int} {i kA : Nat} {g0 : jx_S} (hs : jx_sd 73 i = (6, kA, n, off)) (hs' : jx_sd 53 i = (2, 0, 0, 0)) (hA : kA = 10 ∨ kA = 11 ∨ kA = 12) (h0 : 0 ≤ y + off) (hM : M y i = y + off) (hg : g.2 (y + off) = (kA, n)) :
    jx_cv (jx_ld 73 y i M) = jx_cv (jx_ld 53 y i M) ∧ (jx_ok1 g0 (jx_ld 53 y i M) → jx_ok1 g (jx_ld 73 y i M)) := by
  have e1 : jx_ld 73 y i M = (kA, n, y + off) := by unfold jx_ld; rw [hs]; rfl
  have e2 : jx_ld 53 y i M = (2, 0, y + off) := by unfold jx_ld; rw [hs', hM]; rfl
  rw [e1, e2]
  refine ⟨by rw [jx_cv_ref (by omega) h0, jx_cv_ref (by omega) h0], fun _ => ⟨fun z => ?_, fun _ => ?_, fun _ => ?_⟩⟩
  · have z : kA = 1 := z
    omega
  · show jx_in kA (g.2 (y + off)).1 ∧ (g.2 (y + off)).2 = n
    rw [hg]
    refine ⟨?_, rfl⟩
    unfold jx_in
    rw [if_neg (by omega), if_neg (by omega)]
  · show jx_nr kA
    rcases hA with e | e | e <;> (rw [e]; decide)
theorem jy_int {g g0 : jx_S} {M : jx_M} {y : Int} {i : Nat} (hs : jx_sd 73 i = (0, 0, 0, 0)) (hs' : jx_sd 53 i = (0, 0, 0, 0)) :
    jx_cv (jx_ld 73 y i M) = jx_cv (jx_ld 53 y i M) ∧ (jx_ok1 g0 (jx_ld 53 y i M) → jx_ok1 g (jx_ld 73 y i M)) := by
  have e1 : jx_ld 73 y i M = (0, 0, M y i) := by unfold jx_ld; rw [hs]; rfl
  have e2 : jx_ld 53 y i M = (0, 0, M y i) := by unfold jx_ld; rw [hs']; rfl
  rw [e1, e2]
  exact ⟨rfl, fun _ => ⟨fun z => by have z : (0 : Nat) = 1 := z; omega, fun z => by have z : 10 ≤ (0 : Nat) := z; omega, fun z => by have z : 10 ≤ (0 : Nat) := z; omega⟩⟩
theorem jy_sd1 : ∀ j : Nat, j < 33 → 1 ≤ j → jx_sd 73 (jy_j j) = (6, (jy_k j).1, (jy_k j).2, (j : Int)) := by decide +kernel
theorem jy_sd2 : ∀ j : Nat, j < 33 → 1 ≤ j → jx_sd 53 (jy_j j) = (2, 0, 0, 0) := by decide +kernel
theorem jy_sd3 : ∀ j : Nat, j < 33 → 1 ≤ j → ((jy_k j).1 = 10 ∨ (jy_k j).1 = 11 ∨ (jy_k j).1 = 12) := by decide +kernel
theorem jy_all : ∀ i : Nat, i < 45 → (jx_sd 73 i = (0, 0, 0, 0) ∧ jx_sd 53 i = (0, 0, 0, 0)) ∨ ∃ j : Fin 33, 1 ≤ j.1 ∧ (i : Int) = jy_j j.1 := by decide +kernel
/-- a fresh reference -/
def jn_start (S : jx_M) : Prop := (∀ f, jy_n f → S 0 f = if f = 39 ∨ f = 40 then -1 else 0) ∧ (∀ k : Int, 0 ≤ k → k < 6 → S 10 k = 1) ∧ (∀ k : Int, 0 ≤ k → k < 6 → S 31 k = -1) ∧ (∀ j k : Int, 1 ≤ j → j ≤ 32 → j ≠ 10 → j ≠ 31 → S j k = 0)
def js_X13_init : jx_Sp := fun as g M Po => match as with
  | [(2, _, y)] => (g.2 y = (53, 0) ∧ 0 ≤ y ∧ (g.1 : Int) = y + 1 ∧ ∀ f, jy_n f → M y f = 0) ∧
      ∀ g' M', (g'.1 : Int) = y + 33 → g'.2 y = (73, 0) → (∀ z, z < y → g'.2 z = g.2 z) → (∀ z f, z < y → M' z f = M z f) → jn_start (mY M' y) → Po (3, 0, 0) g' M'
  | _ => False
def cs_X13_init : jx_Cs := [(324, 1, 0, 0, js_X13_forget), (333, 1, 0, 0, js_X13_unwrong)]
theorem hc_X13_init {D : jx_D} {l : Launch} : jx_CsOK D l "LoopLaneModel" 1 cs_X13_init := List.forall_mem_cons.mpr ⟨jc_X13_108 (jt_X13_forget l) (fun as g M Po (h : js_X13_forget as g M Po) => by unfold js_X13_forget at h; split at h <;> first | exact h.elim | exact ⟨_, _, _, rfl, rfl⟩) (by decide), List.forall_mem_cons.mpr ⟨jc_X13_111 (jt_X13_unwrong l) (fun as g M Po (h : js_X13_unwrong as g M Po) => by unfold js_X13_unwrong at h; split at h <;> first | exact h.elim | exact ⟨_, _, _, rfl, rfl⟩) (by decide), fun _ h => absurd h List.not_mem_nil⟩⟩
set_option maxHeartbeats 4000000 in
theorem jt_X13_init (l : Launch) : jx_Ct l yX13_init (ws_ yX13_init cX13_init 2 none) 1 32 7236 js_X13_init := by
  refine jx_Ct_c (rc := 3) (by decide) rfl (fun D as g M Po hS => ?_)
  unfold js_X13_init at hS
  split at hS
  · rename_i n1 y
    obtain ⟨⟨hg0, hy0, hg1, hM0⟩, hPo⟩ := hS
    refine ⟨Nat.le_of_ble_eq_true rfl, ?_⟩
    have at288 : ∀ g' M', g'.2 y = (73, 0) → jy_E g M y g' M' → (∀ k : Int, M' (y + 10) k = if 0 ≤ k ∧ k < 6 then 1 else 0) → ∀ q, jx_V D l (yX13_init.cls, cX13_init, 2, 3, [], 1, 32, 7236, yX13_init.name) Po 288 [(73, 0, y), q] [] (32, 7236) g' M' := by
      intro g' M' k1 k2 k3 q
      obtain ⟨b1, b2, b3, b4, b5⟩ := k2
      refine jx_runL (o := jo_X13) (cs := cs_X13_init) (hf := jx_nh) jo_X13_ok hc_X13_init (jx_HK_nil rfl) (fun _ => false) 40 ?_
      simp only [jw, ju, jx_tg, Int.cast_ofNat_Int, Int.reduceAdd, Int.reduceToNat, Nat.reduceAdd, Nat.reduceMul, Nat.reduceBEq, Nat.reduceLeDiff, Int.reduceLE, Int.reduceLT, Int.reduceEq, Int.reduceNeg, Int.reduceSub, Int.reduceMul, not_false_eq_true, true_and, and_true, and_self, Bool.or_false, Bool.false_or, Bool.or_true, Bool.true_or, List.length_nil, List.length_cons, Nat.zero_le, or_true, true_or, Nat.le_refl, ↓reduceIte, Nat.reduceEqDiff, forall_const, false_and, and_false, false_implies, implies_true, not_true_eq_false, or_false, false_or, ne_eq, jd_X13_init, jf_X13, js_X13_forget, js_X13_unwrong, cs_X13_init, jx_ck_c]
      refine hPo g' _ b1 k1 b2 (fun z f hz => ?_) ⟨fun f hf => ?_, fun k k0 k6 => ?_, fun k k0 k6 => ?_, fun j k j1 j2 j10 j31 => ?_⟩
      · unfold mu_unwrong mu_forget
        simp only [jx_u_a _ _ _ _ _ _ (show z ≠ y + 31 by omega), jx_u_a _ _ _ _ _ _ (show z ≠ y by omega)]
        exact b3 z f hz
      · rw [mY_0]
        have e1 := b4 f hf
        have e2 := hM0 f hf
        unfold mu_unwrong mu_forget
        simp only [jx_u_a _ _ _ _ _ _ (show y ≠ y + 31 by omega)]
        unfold jx_u
        simp only [true_and]
        repeat' split
        all_goals omega
      · rw [mY_j]
        unfold mu_unwrong mu_forget
        simp only [jx_u_a _ _ _ _ _ _ (show y + 10 ≠ y + 31 by omega), jx_u_a _ _ _ _ _ _ (show y + 10 ≠ y by omega)]
        rw [k3 k, if_pos ⟨k0, k6⟩]
      · rw [mY_j]
        unfold mu_unwrong jx_u
        simp only [true_and]
        repeat' split
        all_goals omega
      · rw [mY_j]
        unfold mu_unwrong mu_forget
        simp only [jx_u_a _ _ _ _ _ _ (show y + j ≠ y + 31 by omega), jx_u_a _ _ _ _ _ _ (show y + j ≠ y by omega)]
        exact b5 j j1 j2 j10 k
    have at269 : ∀ (t : Nat) g' M' (k : Int), 6 - k ≤ t → 0 ≤ k → k ≤ 6 → g'.2 y = (73, 0) → jy_E g M y g' M' → (∀ c : Int, M' (y + 10) c = if 0 ≤ c ∧ c < k then 1 else 0) → jx_V D l (yX13_init.cls, cX13_init, 2, 3, [], 1, 32, 7236, yX13_init.name) Po 269 [(73, 0, y), (0, 0, k)] [] (32, 7236) g' M' := by
      intro t
      induction t with
      | zero =>
        intro g' M' k c0 c1 c2 k1 k2 k3
        refine jx_runL (o := jo_X13) (cs := cs_X13_init) (hf := jx_nh) jo_X13_ok hc_X13_init (jx_HK_nil rfl) (fun p => p == 269 || p == 288) 40 ?_
        simp only [jw, ju, jx_tg, Int.cast_ofNat_Int, Int.reduceAdd, Int.reduceToNat, Nat.reduceAdd, Nat.reduceMul, Nat.reduceBEq, Nat.reduceLeDiff, Int.reduceLE, Int.reduceLT, Int.reduceEq, Int.reduceNeg, Int.reduceSub, Int.reduceMul, not_false_eq_true, true_and, and_true, and_self, Bool.or_false, Bool.false_or, Bool.or_true, Bool.true_or, List.length_nil, List.length_cons, Nat.zero_le, or_true, true_or, Nat.le_refl, ↓reduceIte, Nat.reduceEqDiff, forall_const, false_and, and_false, false_implies, implies_true, not_true_eq_false, or_false, false_or, ne_eq, jd_X13_init, jf_X13, js_X13_forget, js_X13_unwrong, cs_X13_init, jx_ck_c]
        refine ⟨⟨by omega, by omega⟩, fun c => at288 g' M' k1 k2 (fun c => ?_) _, fun c => by omega⟩
        rw [k3 c, show k = 6 by omega]
      | succ t ih =>
        intro g' M' k c0 c1 c2 k1 k2 k3
        refine jx_runL (o := jo_X13) (cs := cs_X13_init) (hf := jx_nh) jo_X13_ok hc_X13_init (jx_HK_nil rfl) (fun p => p == 269 || p == 288) 40 ?_
        simp only [jw, ju, jx_tg, Int.cast_ofNat_Int, Int.reduceAdd, Int.reduceToNat, Nat.reduceAdd, Nat.reduceMul, Nat.reduceBEq, Nat.reduceLeDiff, Int.reduceLE, Int.reduceLT, Int.reduceEq, Int.reduceNeg, Int.reduceSub, Int.reduceMul, not_false_eq_true, true_and, and_true, and_self, Bool.or_false, Bool.false_or, Bool.or_true, Bool.true_or, List.length_nil, List.length_cons, Nat.zero_le, or_true, true_or, Nat.le_refl, ↓reduceIte, Nat.reduceEqDiff, forall_const, false_and, and_false, false_implies, implies_true, not_true_eq_false, or_false, false_or, ne_eq, jd_X13_init, jf_X13, js_X13_forget, js_X13_unwrong, cs_X13_init, jx_ck_c]
        refine ⟨⟨by omega, by omega⟩, fun c => at288 g' M' k1 k2 (fun c => ?_) _, fun c => ⟨⟨c1, by omega⟩, ?_⟩⟩
        · rw [k3 c, show k = 6 by omega]
        · obtain ⟨b1, b2, b3, b4, b5⟩ := k2
          refine ih g' _ (k + 1) (by omega) (by omega) (by omega) k1 ⟨b1, b2, fun z f hz => ?_, fun f hf => ?_, fun j j1 j2 j3 c => ?_⟩ (fun c => ?_)
          · rw [jx_u_a _ _ _ _ _ _ (by omega)]; exact b3 z f hz
          · rw [jx_u_a _ _ _ _ _ _ (by omega)]; exact b4 f hf
          · rw [jx_u_a _ _ _ _ _ _ (by omega)]; exact b5 j j1 j2 j3 c
          · have := k3 c
            unfold jx_u
            simp only [true_and]
            by_cases e : c = k
            · rw [if_pos e, if_pos (by omega)]
            · rw [if_neg e, this]
              by_cases e2 : 0 ≤ c ∧ c < k
              · rw [if_pos e2, if_pos (by omega)]
              · rw [if_neg e2, if_neg (by omega)]
    have at267 : ∀ g' M', jy_P g M y 32 g' M' → jx_V D l (yX13_init.cls, cX13_init, 2, 3, [], 1, 32, 7236, yX13_init.name) Po 267 [(2, n1, y), (5, 0, 0)] [] (32, 7236) g' M' := by
      intro g' M' hP
      obtain ⟨a1, a2, a3, a4, a5, a6, a7, a8⟩ := hP
      have sh : ∀ z : Int, (fun z => if z = y then ((73, 0) : Nat × Int) else g'.2 z) z = if z = y then (73, 0) else g'.2 z := fun _ => rfl
      refine jx_seal (g' := (g'.1, fun z => if z = y then (73, 0) else g'.2 z)) rfl (fun z hz hr => ?_) (fun z hz => ?_) ?_
      · show (if z = y then (73, 0) else g'.2 z) = _
        by_cases e : z = y
        · rw [e, a2] at hr
          exact absurd hr (by decide)
        · rw [if_neg e]
      · by_cases e : z = y
        · subst e
          refine .inr ?_
          show 10 ≤ (g'.2 z).1 ∧ (g'.2 z).1 ≠ 14 ∧ jx_bk (if z = z then ((73, 0) : Nat × Int) else g'.2 z).1 = jx_bk (g'.2 z).1 ∧ (if z = z then ((73, 0) : Nat × Int) else g'.2 z).2 = (g'.2 z).2 ∧ ((if z = z then ((73, 0) : Nat × Int) else g'.2 z).1 < 40 ↔ (g'.2 z).1 < 40) ∧ _
          rw [if_pos rfl, a2]
          refine ⟨by decide, by decide, by decide, rfl, by decide, fun i hi => ?_⟩
          have e0 : ((g'.1, fun z_1 => if z_1 = z then ((73, 0) : Nat × Int) else g'.2 z_1) : jx_S).2 z = (73, 0) := by
            show (if z = z then ((73, 0) : Nat × Int) else g'.2 z) = _
            rw [if_pos rfl]
          rw [e0]
          have hi : (i : Int) < 45 := by
            exact hi
          rcases jy_all i (by omega) with ⟨s1, s2⟩ | ⟨j, j1, j2⟩
          · exact jy_int s1 s2
          · have hj := j.2
            refine jy_ref (kA := (jy_k j.1).1) (n := (jy_k j.1).2) (off := j.1) (by rw [j2]; exact jy_sd1 j.1 j.2 j1) (by rw [j2]; exact jy_sd2 j.1 j.2 j1) (jy_sd3 j.1 j.2 j1) (by omega) (by rw [j2]; exact a5 j.1 j1 (by omega)) ?_
            show (if z + (j.1 : Int) = z then ((73, 0) : Nat × Int) else g'.2 (z + j.1)) = _
            rw [if_neg (by omega), a4 j.1 j1 (by omega)]
        · refine .inl ?_
          show (if z = y then (73, 0) else g'.2 z) = _
          rw [if_neg e]
      · have e0 : ((g'.1, fun z => if z = y then ((73, 0) : Nat × Int) else g'.2 z) : jx_S).2 y = (73, 0) := by
          show (if y = y then ((73, 0) : Nat × Int) else g'.2 y) = _
          rw [if_pos rfl]
        refine jx_retag (ls' := [(73, 0, y), (5, 0, 0)]) (st' := []) ?_ rfl (fun hl _ => ⟨jx_ok_cons ⟨fun z => by have z : (73 : Nat) = 1 := z; omega, fun _ => ?_, fun _ => (by decide : jx_nr 73)⟩ (jx_ok_tl hl), fun _ h => absurd h List.not_mem_nil⟩) ?_
        · show [some (jx_cv (73, 0, y)), none] = [some (jx_cv (2, n1, y)), none]
          rw [jx_cv_ref (by omega) hy0, jx_cv_ref (by omega) hy0]
        · rw [e0]
          exact ⟨rfl, rfl⟩
        · refine jx_runL (o := jo_X13) (cs := cs_X13_init) (hf := jx_nh) jo_X13_ok hc_X13_init (jx_HK_nil rfl) (fun p => p == 269) 20 ?_
          simp only [jw, ju, jx_tg, Int.cast_ofNat_Int, Int.reduceAdd, Int.reduceToNat, Nat.reduceAdd, Nat.reduceMul, Nat.reduceBEq, Nat.reduceLeDiff, Int.reduceLE, Int.reduceLT, Int.reduceEq, Int.reduceNeg, Int.reduceSub, Int.reduceMul, not_false_eq_true, true_and, and_true, and_self, Bool.or_false, Bool.false_or, Bool.or_true, Bool.true_or, List.length_nil, List.length_cons, Nat.zero_le, or_true, true_or, Nat.le_refl, ↓reduceIte, Nat.reduceEqDiff, forall_const, false_and, and_false, false_implies, implies_true, not_true_eq_false, or_false, false_or, ne_eq, jd_X13_init, jf_X13, js_X13_forget, js_X13_unwrong, cs_X13_init, jx_ck_c]
          refine at269 6 _ M' 0 (by omega) (by omega) (by omega) e0 ⟨by show (g'.1 : Int) = _; omega, fun z hz => ?_, a8, a7, fun j j1 j2 j3 c => ?_⟩ (fun c => ?_)
          · show (if z = y then (73, 0) else g'.2 z) = _
            rw [if_neg (by omega)]
            exact a3 z hz
          · have := a6 j.toNat (by omega) (by omega) c
            rw [show ((j.toNat : Nat) : Int) = j by omega] at this
            exact this
          · rw [if_neg (by omega)]
            exact a6 10 (by omega) (by omega) c
    have at258 : ∀ g' M', jy_P g M y 31 g' M' → jx_V D l (yX13_init.cls, cX13_init, 2, 3, [], 1, 32, 7236, yX13_init.name) Po 258 [(2, n1, y), (5, 0, 0)] [] (31, 4020) g' M' := by
      intro g' M' hP
      refine jx_s_fld (x := 105) (k := 53) (kA := 11) (j := 37) (t := 2) (p1 := 262) (n := 3216) (a := y) (w := n1) (ty := .long) rfl ⟨rfl, by decide⟩ (by decide +kernel) (.inr ⟨by decide +kernel, rfl, by decide⟩) (by decide +kernel) (by decide +kernel) (by decide) (by decide) ⟨by decide, by decide⟩ hP.2.1 (by have := hP.1; omega) (by decide) rfl (by decide) q1176 (Or.inr ⟨rfl, rfl, rfl⟩) ⟨.array .long, by decide +kernel, .inr ⟨_, rfl⟩⟩ (by decide) ?_
      exact at267 _ _ (jy_P_s hP (by decide) rfl rfl (by decide))
    have at250 : ∀ g' M', jy_P g M y 30 g' M' → jx_V D l (yX13_init.cls, cX13_init, 2, 3, [], 1, 32, 7236, yX13_init.name) Po 250 [(2, n1, y), (5, 0, 0)] [] (30, 4014) g' M' := by
      intro g' M' hP
      refine jx_s_fld (x := 102) (k := 53) (kA := 10) (j := 36) (t := 2) (p1 := 253) (n := 6) (a := y) (w := n1) (ty := .int) rfl ⟨rfl, by decide⟩ (by decide +kernel) (.inl ⟨by decide +kernel, rfl, by decide⟩) (by decide +kernel) (by decide +kernel) (by decide) (by decide) ⟨by decide, by decide⟩ hP.2.1 (by have := hP.1; omega) (by decide) rfl (by decide) q1175 (Or.inr ⟨rfl, rfl, rfl⟩) ⟨.array .int, by decide +kernel, .inr ⟨_, rfl⟩⟩ (by decide) ?_
      exact at258 _ _ (jy_P_s hP (by decide) rfl rfl (by decide))
    have at242 : ∀ g' M', jy_P g M y 29 g' M' → jx_V D l (yX13_init.cls, cX13_init, 2, 3, [], 1, 32, 7236, yX13_init.name) Po 242 [(2, n1, y), (5, 0, 0)] [] (29, 3954) g' M' := by
      intro g' M' hP
      refine jx_s_fld (x := 99) (k := 53) (kA := 10) (j := 35) (t := 2) (p1 := 245) (n := 60) (a := y) (w := n1) (ty := .int) rfl ⟨rfl, by decide⟩ (by decide +kernel) (.inl ⟨by decide +kernel, rfl, by decide⟩) (by decide +kernel) (by decide +kernel) (by decide) (by decide) ⟨by decide, by decide⟩ hP.2.1 (by have := hP.1; omega) (by decide) rfl (by decide) q1174 (Or.inr ⟨rfl, rfl, rfl⟩) ⟨.array .int, by decide +kernel, .inr ⟨_, rfl⟩⟩ (by decide) ?_
      exact at250 _ _ (jy_P_s hP (by decide) rfl rfl (by decide))
    have at234 : ∀ g' M', jy_P g M y 28 g' M' → jx_V D l (yX13_init.cls, cX13_init, 2, 3, [], 1, 32, 7236, yX13_init.name) Po 234 [(2, n1, y), (5, 0, 0)] [] (28, 3938) g' M' := by
      intro g' M' hP
      refine jx_s_fld (x := 96) (k := 53) (kA := 10) (j := 34) (t := 2) (p1 := 237) (n := 16) (a := y) (w := n1) (ty := .int) rfl ⟨rfl, by decide⟩ (by decide +kernel) (.inl ⟨by decide +kernel, rfl, by decide⟩) (by decide +kernel) (by decide +kernel) (by decide) (by decide) ⟨by decide, by decide⟩ hP.2.1 (by have := hP.1; omega) (by decide) rfl (by decide) q1173 (Or.inr ⟨rfl, rfl, rfl⟩) ⟨.array .int, by decide +kernel, .inr ⟨_, rfl⟩⟩ (by decide) ?_
      exact at242 _ _ (jy_P_s hP (by decide) rfl rfl (by decide))
    have at226 : ∀ g' M', jy_P g M y 27 g' M' → jx_V D l (yX13_init.cls, cX13_init, 2, 3, [], 1, 32, 7236, yX13_init.name) Po 226 [(2, n1, y), (5, 0, 0)] [] (27, 3922) g' M' := by
      intro g' M' hP
      refine jx_s_fld (x := 93) (k := 53) (kA := 10) (j := 33) (t := 2) (p1 := 229) (n := 16) (a := y) (w := n1) (ty := .int) rfl ⟨rfl, by decide⟩ (by decide +kernel) (.inl ⟨by decide +kernel, rfl, by decide⟩) (by decide +kernel) (by decide +kernel) (by decide) (by decide) ⟨by decide, by decide⟩ hP.2.1 (by have := hP.1; omega) (by decide) rfl (by decide) q1172 (Or.inr ⟨rfl, rfl, rfl⟩) ⟨.array .int, by decide +kernel, .inr ⟨_, rfl⟩⟩ (by decide) ?_
      exact at234 _ _ (jy_P_s hP (by decide) rfl rfl (by decide))
    have at218 : ∀ g' M', jy_P g M y 26 g' M' → jx_V D l (yX13_init.cls, cX13_init, 2, 3, [], 1, 32, 7236, yX13_init.name) Po 218 [(2, n1, y), (5, 0, 0)] [] (26, 3906) g' M' := by
      intro g' M' hP
      refine jx_s_fld (x := 90) (k := 53) (kA := 10) (j := 31) (t := 2) (p1 := 221) (n := 16) (a := y) (w := n1) (ty := .int) rfl ⟨rfl, by decide⟩ (by decide +kernel) (.inl ⟨by decide +kernel, rfl, by decide⟩) (by decide +kernel) (by decide +kernel) (by decide) (by decide) ⟨by decide, by decide⟩ hP.2.1 (by have := hP.1; omega) (by decide) rfl (by decide) q1170 (Or.inr ⟨rfl, rfl, rfl⟩) ⟨.array .int, by decide +kernel, .inr ⟨_, rfl⟩⟩ (by decide) ?_
      exact at226 _ _ (jy_P_s hP (by decide) rfl rfl (by decide))
    have at210 : ∀ g' M', jy_P g M y 25 g' M' → jx_V D l (yX13_init.cls, cX13_init, 2, 3, [], 1, 32, 7236, yX13_init.name) Po 210 [(2, n1, y), (5, 0, 0)] [] (25, 3890) g' M' := by
      intro g' M' hP
      refine jx_s_fld (x := 87) (k := 53) (kA := 10) (j := 30) (t := 2) (p1 := 213) (n := 16) (a := y) (w := n1) (ty := .int) rfl ⟨rfl, by decide⟩ (by decide +kernel) (.inl ⟨by decide +kernel, rfl, by decide⟩) (by decide +kernel) (by decide +kernel) (by decide) (by decide) ⟨by decide, by decide⟩ hP.2.1 (by have := hP.1; omega) (by decide) rfl (by decide) q1169 (Or.inr ⟨rfl, rfl, rfl⟩) ⟨.array .int, by decide +kernel, .inr ⟨_, rfl⟩⟩ (by decide) ?_
      exact at218 _ _ (jy_P_s hP (by decide) rfl rfl (by decide))
    have at202 : ∀ g' M', jy_P g M y 24 g' M' → jx_V D l (yX13_init.cls, cX13_init, 2, 3, [], 1, 32, 7236, yX13_init.name) Po 202 [(2, n1, y), (5, 0, 0)] [] (24, 3874) g' M' := by
      intro g' M' hP
      refine jx_s_fld (x := 84) (k := 53) (kA := 10) (j := 29) (t := 2) (p1 := 205) (n := 16) (a := y) (w := n1) (ty := .int) rfl ⟨rfl, by decide⟩ (by decide +kernel) (.inl ⟨by decide +kernel, rfl, by decide⟩) (by decide +kernel) (by decide +kernel) (by decide) (by decide) ⟨by decide, by decide⟩ hP.2.1 (by have := hP.1; omega) (by decide) rfl (by decide) q1168 (Or.inr ⟨rfl, rfl, rfl⟩) ⟨.array .int, by decide +kernel, .inr ⟨_, rfl⟩⟩ (by decide) ?_
      exact at210 _ _ (jy_P_s hP (by decide) rfl rfl (by decide))
    have at194 : ∀ g' M', jy_P g M y 23 g' M' → jx_V D l (yX13_init.cls, cX13_init, 2, 3, [], 1, 32, 7236, yX13_init.name) Po 194 [(2, n1, y), (5, 0, 0)] [] (23, 3858) g' M' := by
      intro g' M' hP
      refine jx_s_fld (x := 81) (k := 53) (kA := 10) (j := 28) (t := 2) (p1 := 197) (n := 16) (a := y) (w := n1) (ty := .int) rfl ⟨rfl, by decide⟩ (by decide +kernel) (.inl ⟨by decide +kernel, rfl, by decide⟩) (by decide +kernel) (by decide +kernel) (by decide) (by decide) ⟨by decide, by decide⟩ hP.2.1 (by have := hP.1; omega) (by decide) rfl (by decide) q1167 (Or.inr ⟨rfl, rfl, rfl⟩) ⟨.array .int, by decide +kernel, .inr ⟨_, rfl⟩⟩ (by decide) ?_
      exact at202 _ _ (jy_P_s hP (by decide) rfl rfl (by decide))
    have at186 : ∀ g' M', jy_P g M y 22 g' M' → jx_V D l (yX13_init.cls, cX13_init, 2, 3, [], 1, 32, 7236, yX13_init.name) Po 186 [(2, n1, y), (5, 0, 0)] [] (22, 3846) g' M' := by
      intro g' M' hP
      refine jx_s_fld (x := 78) (k := 53) (kA := 10) (j := 25) (t := 2) (p1 := 189) (n := 12) (a := y) (w := n1) (ty := .int) rfl ⟨rfl, by decide⟩ (by decide +kernel) (.inl ⟨by decide +kernel, rfl, by decide⟩) (by decide +kernel) (by decide +kernel) (by decide) (by decide) ⟨by decide, by decide⟩ hP.2.1 (by have := hP.1; omega) (by decide) rfl (by decide) q1164 (Or.inr ⟨rfl, rfl, rfl⟩) ⟨.array .int, by decide +kernel, .inr ⟨_, rfl⟩⟩ (by decide) ?_
      exact at194 _ _ (jy_P_s hP (by decide) rfl rfl (by decide))
    have at178 : ∀ g' M', jy_P g M y 21 g' M' → jx_V D l (yX13_init.cls, cX13_init, 2, 3, [], 1, 32, 7236, yX13_init.name) Po 178 [(2, n1, y), (5, 0, 0)] [] (21, 3838) g' M' := by
      intro g' M' hP
      refine jx_s_fld (x := 74) (k := 53) (kA := 12) (j := 24) (t := 2) (p1 := 181) (n := 8) (a := y) (w := n1) (ty := .boolean) rfl ⟨rfl, by decide⟩ (by decide +kernel) (.inl ⟨by decide +kernel, rfl, by decide⟩) (by decide +kernel) (by decide +kernel) (by decide) (by decide) ⟨by decide, by decide⟩ hP.2.1 (by have := hP.1; omega) (by decide) rfl (by decide) q1163 (Or.inr ⟨rfl, rfl, rfl⟩) ⟨.array .boolean, by decide +kernel, .inr ⟨_, rfl⟩⟩ (by decide) ?_
      exact at186 _ _ (jy_P_s hP (by decide) rfl rfl (by decide))
    have at170 : ∀ g' M', jy_P g M y 20 g' M' → jx_V D l (yX13_init.cls, cX13_init, 2, 3, [], 1, 32, 7236, yX13_init.name) Po 170 [(2, n1, y), (5, 0, 0)] [] (20, 3830) g' M' := by
      intro g' M' hP
      refine jx_s_fld (x := 71) (k := 53) (kA := 10) (j := 23) (t := 2) (p1 := 173) (n := 8) (a := y) (w := n1) (ty := .int) rfl ⟨rfl, by decide⟩ (by decide +kernel) (.inl ⟨by decide +kernel, rfl, by decide⟩) (by decide +kernel) (by decide +kernel) (by decide) (by decide) ⟨by decide, by decide⟩ hP.2.1 (by have := hP.1; omega) (by decide) rfl (by decide) q1162 (Or.inr ⟨rfl, rfl, rfl⟩) ⟨.array .int, by decide +kernel, .inr ⟨_, rfl⟩⟩ (by decide) ?_
      exact at178 _ _ (jy_P_s hP (by decide) rfl rfl (by decide))
    have at161 : ∀ g' M', jy_P g M y 19 g' M' → jx_V D l (yX13_init.cls, cX13_init, 2, 3, [], 1, 32, 7236, yX13_init.name) Po 161 [(2, n1, y), (5, 0, 0)] [] (19, 3510) g' M' := by
      intro g' M' hP
      refine jx_s_fld (x := 68) (k := 53) (kA := 11) (j := 22) (t := 2) (p1 := 165) (n := 320) (a := y) (w := n1) (ty := .long) rfl ⟨rfl, by decide⟩ (by decide +kernel) (.inr ⟨by decide +kernel, rfl, by decide⟩) (by decide +kernel) (by decide +kernel) (by decide) (by decide) ⟨by decide, by decide⟩ hP.2.1 (by have := hP.1; omega) (by decide) rfl (by decide) q1161 (Or.inr ⟨rfl, rfl, rfl⟩) ⟨.array .long, by decide +kernel, .inr ⟨_, rfl⟩⟩ (by decide) ?_
      exact at170 _ _ (jy_P_s hP (by decide) rfl rfl (by decide))
    have at152 : ∀ g' M', jy_P g M y 18 g' M' → jx_V D l (yX13_init.cls, cX13_init, 2, 3, [], 1, 32, 7236, yX13_init.name) Po 152 [(2, n1, y), (5, 0, 0)] [] (18, 3190) g' M' := by
      intro g' M' hP
      refine jx_s_fld (x := 65) (k := 53) (kA := 11) (j := 21) (t := 2) (p1 := 156) (n := 320) (a := y) (w := n1) (ty := .long) rfl ⟨rfl, by decide⟩ (by decide +kernel) (.inr ⟨by decide +kernel, rfl, by decide⟩) (by decide +kernel) (by decide +kernel) (by decide) (by decide) ⟨by decide, by decide⟩ hP.2.1 (by have := hP.1; omega) (by decide) rfl (by decide) q1160 (Or.inr ⟨rfl, rfl, rfl⟩) ⟨.array .long, by decide +kernel, .inr ⟨_, rfl⟩⟩ (by decide) ?_
      exact at161 _ _ (jy_P_s hP (by decide) rfl rfl (by decide))
    have at143 : ∀ g' M', jy_P g M y 17 g' M' → jx_V D l (yX13_init.cls, cX13_init, 2, 3, [], 1, 32, 7236, yX13_init.name) Po 143 [(2, n1, y), (5, 0, 0)] [] (17, 2486) g' M' := by
      intro g' M' hP
      refine jx_s_fld (x := 62) (k := 53) (kA := 10) (j := 19) (t := 2) (p1 := 147) (n := 704) (a := y) (w := n1) (ty := .int) rfl ⟨rfl, by decide⟩ (by decide +kernel) (.inr ⟨by decide +kernel, rfl, by decide⟩) (by decide +kernel) (by decide +kernel) (by decide) (by decide) ⟨by decide, by decide⟩ hP.2.1 (by have := hP.1; omega) (by decide) rfl (by decide) q1158 (Or.inr ⟨rfl, rfl, rfl⟩) ⟨.array .int, by decide +kernel, .inr ⟨_, rfl⟩⟩ (by decide) ?_
      exact at152 _ _ (jy_P_s hP (by decide) rfl rfl (by decide))
    have at134 : ∀ g' M', jy_P g M y 16 g' M' → jx_V D l (yX13_init.cls, cX13_init, 2, 3, [], 1, 32, 7236, yX13_init.name) Po 134 [(2, n1, y), (5, 0, 0)] [] (16, 1782) g' M' := by
      intro g' M' hP
      refine jx_s_fld (x := 59) (k := 53) (kA := 10) (j := 18) (t := 2) (p1 := 138) (n := 704) (a := y) (w := n1) (ty := .int) rfl ⟨rfl, by decide⟩ (by decide +kernel) (.inr ⟨by decide +kernel, rfl, by decide⟩) (by decide +kernel) (by decide +kernel) (by decide) (by decide) ⟨by decide, by decide⟩ hP.2.1 (by have := hP.1; omega) (by decide) rfl (by decide) q1157 (Or.inr ⟨rfl, rfl, rfl⟩) ⟨.array .int, by decide +kernel, .inr ⟨_, rfl⟩⟩ (by decide) ?_
      exact at143 _ _ (jy_P_s hP (by decide) rfl rfl (by decide))
    have at125 : ∀ g' M', jy_P g M y 15 g' M' → jx_V D l (yX13_init.cls, cX13_init, 2, 3, [], 1, 32, 7236, yX13_init.name) Po 125 [(2, n1, y), (5, 0, 0)] [] (15, 1078) g' M' := by
      intro g' M' hP
      refine jx_s_fld (x := 56) (k := 53) (kA := 10) (j := 17) (t := 2) (p1 := 129) (n := 704) (a := y) (w := n1) (ty := .int) rfl ⟨rfl, by decide⟩ (by decide +kernel) (.inr ⟨by decide +kernel, rfl, by decide⟩) (by decide +kernel) (by decide +kernel) (by decide) (by decide) ⟨by decide, by decide⟩ hP.2.1 (by have := hP.1; omega) (by decide) rfl (by decide) q1156 (Or.inr ⟨rfl, rfl, rfl⟩) ⟨.array .int, by decide +kernel, .inr ⟨_, rfl⟩⟩ (by decide) ?_
      exact at134 _ _ (jy_P_s hP (by decide) rfl rfl (by decide))
    have at116 : ∀ g' M', jy_P g M y 14 g' M' → jx_V D l (yX13_init.cls, cX13_init, 2, 3, [], 1, 32, 7236, yX13_init.name) Po 116 [(2, n1, y), (5, 0, 0)] [] (14, 374) g' M' := by
      intro g' M' hP
      refine jx_s_fld (x := 53) (k := 53) (kA := 10) (j := 16) (t := 2) (p1 := 120) (n := 704) (a := y) (w := n1) (ty := .int) rfl ⟨rfl, by decide⟩ (by decide +kernel) (.inr ⟨by decide +kernel, rfl, by decide⟩) (by decide +kernel) (by decide +kernel) (by decide) (by decide) ⟨by decide, by decide⟩ hP.2.1 (by have := hP.1; omega) (by decide) rfl (by decide) q1155 (Or.inr ⟨rfl, rfl, rfl⟩) ⟨.array .int, by decide +kernel, .inr ⟨_, rfl⟩⟩ (by decide) ?_
      exact at125 _ _ (jy_P_s hP (by decide) rfl rfl (by decide))
    have at108 : ∀ g' M', jy_P g M y 13 g' M' → jx_V D l (yX13_init.cls, cX13_init, 2, 3, [], 1, 32, 7236, yX13_init.name) Po 108 [(2, n1, y), (5, 0, 0)] [] (13, 334) g' M' := by
      intro g' M' hP
      refine jx_s_fld (x := 50) (k := 53) (kA := 10) (j := 14) (t := 2) (p1 := 111) (n := 40) (a := y) (w := n1) (ty := .int) rfl ⟨rfl, by decide⟩ (by decide +kernel) (.inl ⟨by decide +kernel, rfl, by decide⟩) (by decide +kernel) (by decide +kernel) (by decide) (by decide) ⟨by decide, by decide⟩ hP.2.1 (by have := hP.1; omega) (by decide) rfl (by decide) q1153 (Or.inr ⟨rfl, rfl, rfl⟩) ⟨.array .int, by decide +kernel, .inr ⟨_, rfl⟩⟩ (by decide) ?_
      exact at116 _ _ (jy_P_s hP (by decide) rfl rfl (by decide))
    have at100 : ∀ g' M', jy_P g M y 12 g' M' → jx_V D l (yX13_init.cls, cX13_init, 2, 3, [], 1, 32, 7236, yX13_init.name) Po 100 [(2, n1, y), (5, 0, 0)] [] (12, 294) g' M' := by
      intro g' M' hP
      refine jx_s_fld (x := 47) (k := 53) (kA := 10) (j := 13) (t := 2) (p1 := 103) (n := 40) (a := y) (w := n1) (ty := .int) rfl ⟨rfl, by decide⟩ (by decide +kernel) (.inl ⟨by decide +kernel, rfl, by decide⟩) (by decide +kernel) (by decide +kernel) (by decide) (by decide) ⟨by decide, by decide⟩ hP.2.1 (by have := hP.1; omega) (by decide) rfl (by decide) q1152 (Or.inr ⟨rfl, rfl, rfl⟩) ⟨.array .int, by decide +kernel, .inr ⟨_, rfl⟩⟩ (by decide) ?_
      exact at108 _ _ (jy_P_s hP (by decide) rfl rfl (by decide))
    have at92 : ∀ g' M', jy_P g M y 11 g' M' → jx_V D l (yX13_init.cls, cX13_init, 2, 3, [], 1, 32, 7236, yX13_init.name) Po 92 [(2, n1, y), (5, 0, 0)] [] (11, 254) g' M' := by
      intro g' M' hP
      refine jx_s_fld (x := 44) (k := 53) (kA := 10) (j := 12) (t := 2) (p1 := 95) (n := 40) (a := y) (w := n1) (ty := .int) rfl ⟨rfl, by decide⟩ (by decide +kernel) (.inl ⟨by decide +kernel, rfl, by decide⟩) (by decide +kernel) (by decide +kernel) (by decide) (by decide) ⟨by decide, by decide⟩ hP.2.1 (by have := hP.1; omega) (by decide) rfl (by decide) q1151 (Or.inr ⟨rfl, rfl, rfl⟩) ⟨.array .int, by decide +kernel, .inr ⟨_, rfl⟩⟩ (by decide) ?_
      exact at100 _ _ (jy_P_s hP (by decide) rfl rfl (by decide))
    have at84 : ∀ g' M', jy_P g M y 10 g' M' → jx_V D l (yX13_init.cls, cX13_init, 2, 3, [], 1, 32, 7236, yX13_init.name) Po 84 [(2, n1, y), (5, 0, 0)] [] (10, 214) g' M' := by
      intro g' M' hP
      refine jx_s_fld (x := 41) (k := 53) (kA := 10) (j := 11) (t := 2) (p1 := 87) (n := 40) (a := y) (w := n1) (ty := .int) rfl ⟨rfl, by decide⟩ (by decide +kernel) (.inl ⟨by decide +kernel, rfl, by decide⟩) (by decide +kernel) (by decide +kernel) (by decide) (by decide) ⟨by decide, by decide⟩ hP.2.1 (by have := hP.1; omega) (by decide) rfl (by decide) q1150 (Or.inr ⟨rfl, rfl, rfl⟩) ⟨.array .int, by decide +kernel, .inr ⟨_, rfl⟩⟩ (by decide) ?_
      exact at92 _ _ (jy_P_s hP (by decide) rfl rfl (by decide))
    have at76 : ∀ g' M', jy_P g M y 9 g' M' → jx_V D l (yX13_init.cls, cX13_init, 2, 3, [], 1, 32, 7236, yX13_init.name) Po 76 [(2, n1, y), (5, 0, 0)] [] (9, 208) g' M' := by
      intro g' M' hP
      refine jx_s_fld (x := 38) (k := 53) (kA := 10) (j := 10) (t := 2) (p1 := 79) (n := 6) (a := y) (w := n1) (ty := .int) rfl ⟨rfl, by decide⟩ (by decide +kernel) (.inl ⟨by decide +kernel, rfl, by decide⟩) (by decide +kernel) (by decide +kernel) (by decide) (by decide) ⟨by decide, by decide⟩ hP.2.1 (by have := hP.1; omega) (by decide) rfl (by decide) q1149 (Or.inr ⟨rfl, rfl, rfl⟩) ⟨.array .int, by decide +kernel, .inr ⟨_, rfl⟩⟩ (by decide) ?_
      exact at84 _ _ (jy_P_s hP (by decide) rfl rfl (by decide))
    have at68 : ∀ g' M', jy_P g M y 8 g' M' → jx_V D l (yX13_init.cls, cX13_init, 2, 3, [], 1, 32, 7236, yX13_init.name) Po 68 [(2, n1, y), (5, 0, 0)] [] (8, 192) g' M' := by
      intro g' M' hP
      refine jx_s_fld (x := 35) (k := 53) (kA := 11) (j := 8) (t := 2) (p1 := 71) (n := 16) (a := y) (w := n1) (ty := .long) rfl ⟨rfl, by decide⟩ (by decide +kernel) (.inl ⟨by decide +kernel, rfl, by decide⟩) (by decide +kernel) (by decide +kernel) (by decide) (by decide) ⟨by decide, by decide⟩ hP.2.1 (by have := hP.1; omega) (by decide) rfl (by decide) q1147 (Or.inr ⟨rfl, rfl, rfl⟩) ⟨.array .long, by decide +kernel, .inr ⟨_, rfl⟩⟩ (by decide) ?_
      exact at76 _ _ (jy_P_s hP (by decide) rfl rfl (by decide))
    have at60 : ∀ g' M', jy_P g M y 7 g' M' → jx_V D l (yX13_init.cls, cX13_init, 2, 3, [], 1, 32, 7236, yX13_init.name) Po 60 [(2, n1, y), (5, 0, 0)] [] (7, 176) g' M' := by
      intro g' M' hP
      refine jx_s_fld (x := 31) (k := 53) (kA := 11) (j := 7) (t := 2) (p1 := 63) (n := 16) (a := y) (w := n1) (ty := .long) rfl ⟨rfl, by decide⟩ (by decide +kernel) (.inl ⟨by decide +kernel, rfl, by decide⟩) (by decide +kernel) (by decide +kernel) (by decide) (by decide) ⟨by decide, by decide⟩ hP.2.1 (by have := hP.1; omega) (by decide) rfl (by decide) q1146 (Or.inr ⟨rfl, rfl, rfl⟩) ⟨.array .long, by decide +kernel, .inr ⟨_, rfl⟩⟩ (by decide) ?_
      exact at68 _ _ (jy_P_s hP (by decide) rfl rfl (by decide))
    have at52 : ∀ g' M', jy_P g M y 6 g' M' → jx_V D l (yX13_init.cls, cX13_init, 2, 3, [], 1, 32, 7236, yX13_init.name) Po 52 [(2, n1, y), (5, 0, 0)] [] (6, 128) g' M' := by
      intro g' M' hP
      refine jx_s_fld (x := 28) (k := 53) (kA := 10) (j := 6) (t := 2) (p1 := 55) (n := 48) (a := y) (w := n1) (ty := .int) rfl ⟨rfl, by decide⟩ (by decide +kernel) (.inl ⟨by decide +kernel, rfl, by decide⟩) (by decide +kernel) (by decide +kernel) (by decide) (by decide) ⟨by decide, by decide⟩ hP.2.1 (by have := hP.1; omega) (by decide) rfl (by decide) q1145 (Or.inr ⟨rfl, rfl, rfl⟩) ⟨.array .int, by decide +kernel, .inr ⟨_, rfl⟩⟩ (by decide) ?_
      exact at60 _ _ (jy_P_s hP (by decide) rfl rfl (by decide))
    have at44 : ∀ g' M', jy_P g M y 5 g' M' → jx_V D l (yX13_init.cls, cX13_init, 2, 3, [], 1, 32, 7236, yX13_init.name) Po 44 [(2, n1, y), (5, 0, 0)] [] (5, 80) g' M' := by
      intro g' M' hP
      refine jx_s_fld (x := 25) (k := 53) (kA := 10) (j := 5) (t := 2) (p1 := 47) (n := 48) (a := y) (w := n1) (ty := .int) rfl ⟨rfl, by decide⟩ (by decide +kernel) (.inl ⟨by decide +kernel, rfl, by decide⟩) (by decide +kernel) (by decide +kernel) (by decide) (by decide) ⟨by decide, by decide⟩ hP.2.1 (by have := hP.1; omega) (by decide) rfl (by decide) q1144 (Or.inr ⟨rfl, rfl, rfl⟩) ⟨.array .int, by decide +kernel, .inr ⟨_, rfl⟩⟩ (by decide) ?_
      exact at52 _ _ (jy_P_s hP (by decide) rfl rfl (by decide))
    have at36 : ∀ g' M', jy_P g M y 4 g' M' → jx_V D l (yX13_init.cls, cX13_init, 2, 3, [], 1, 32, 7236, yX13_init.name) Po 36 [(2, n1, y), (5, 0, 0)] [] (4, 64) g' M' := by
      intro g' M' hP
      refine jx_s_fld (x := 22) (k := 53) (kA := 10) (j := 4) (t := 2) (p1 := 39) (n := 16) (a := y) (w := n1) (ty := .int) rfl ⟨rfl, by decide⟩ (by decide +kernel) (.inl ⟨by decide +kernel, rfl, by decide⟩) (by decide +kernel) (by decide +kernel) (by decide) (by decide) ⟨by decide, by decide⟩ hP.2.1 (by have := hP.1; omega) (by decide) rfl (by decide) q1143 (Or.inr ⟨rfl, rfl, rfl⟩) ⟨.array .int, by decide +kernel, .inr ⟨_, rfl⟩⟩ (by decide) ?_
      exact at44 _ _ (jy_P_s hP (by decide) rfl rfl (by decide))
    have at28 : ∀ g' M', jy_P g M y 3 g' M' → jx_V D l (yX13_init.cls, cX13_init, 2, 3, [], 1, 32, 7236, yX13_init.name) Po 28 [(2, n1, y), (5, 0, 0)] [] (3, 48) g' M' := by
      intro g' M' hP
      refine jx_s_fld (x := 19) (k := 53) (kA := 10) (j := 3) (t := 2) (p1 := 31) (n := 16) (a := y) (w := n1) (ty := .int) rfl ⟨rfl, by decide⟩ (by decide +kernel) (.inl ⟨by decide +kernel, rfl, by decide⟩) (by decide +kernel) (by decide +kernel) (by decide) (by decide) ⟨by decide, by decide⟩ hP.2.1 (by have := hP.1; omega) (by decide) rfl (by decide) q1142 (Or.inr ⟨rfl, rfl, rfl⟩) ⟨.array .int, by decide +kernel, .inr ⟨_, rfl⟩⟩ (by decide) ?_
      exact at36 _ _ (jy_P_s hP (by decide) rfl rfl (by decide))
    have at20 : ∀ g' M', jy_P g M y 2 g' M' → jx_V D l (yX13_init.cls, cX13_init, 2, 3, [], 1, 32, 7236, yX13_init.name) Po 20 [(2, n1, y), (5, 0, 0)] [] (2, 32) g' M' := by
      intro g' M' hP
      refine jx_s_fld (x := 16) (k := 53) (kA := 10) (j := 2) (t := 2) (p1 := 23) (n := 16) (a := y) (w := n1) (ty := .int) rfl ⟨rfl, by decide⟩ (by decide +kernel) (.inl ⟨by decide +kernel, rfl, by decide⟩) (by decide +kernel) (by decide +kernel) (by decide) (by decide) ⟨by decide, by decide⟩ hP.2.1 (by have := hP.1; omega) (by decide) rfl (by decide) q1141 (Or.inr ⟨rfl, rfl, rfl⟩) ⟨.array .int, by decide +kernel, .inr ⟨_, rfl⟩⟩ (by decide) ?_
      exact at28 _ _ (jy_P_s hP (by decide) rfl rfl (by decide))
    have at12 : ∀ g' M', jy_P g M y 1 g' M' → jx_V D l (yX13_init.cls, cX13_init, 2, 3, [], 1, 32, 7236, yX13_init.name) Po 12 [(2, n1, y), (5, 0, 0)] [] (1, 16) g' M' := by
      intro g' M' hP
      refine jx_s_fld (x := 13) (k := 53) (kA := 10) (j := 1) (t := 2) (p1 := 15) (n := 16) (a := y) (w := n1) (ty := .int) rfl ⟨rfl, by decide⟩ (by decide +kernel) (.inl ⟨by decide +kernel, rfl, by decide⟩) (by decide +kernel) (by decide +kernel) (by decide) (by decide) ⟨by decide, by decide⟩ hP.2.1 (by have := hP.1; omega) (by decide) rfl (by decide) q1140 (Or.inr ⟨rfl, rfl, rfl⟩) ⟨.array .int, by decide +kernel, .inr ⟨_, rfl⟩⟩ (by decide) ?_
      exact at20 _ _ (jy_P_s hP (by decide) rfl rfl (by decide))
    have at4 : ∀ g' M', jy_P g M y 0 g' M' → jx_V D l (yX13_init.cls, cX13_init, 2, 3, [], 1, 32, 7236, yX13_init.name) Po 4 [(2, n1, y), (5, 0, 0)] [] (0, 0) g' M' := by
      intro g' M' hP
      refine jx_s_fld (x := 7) (k := 53) (kA := 10) (j := 0) (t := 2) (p1 := 7) (n := 16) (a := y) (w := n1) (ty := .int) rfl ⟨rfl, by decide⟩ (by decide +kernel) (.inl ⟨by decide +kernel, rfl, by decide⟩) (by decide +kernel) (by decide +kernel) (by decide) (by decide) ⟨by decide, by decide⟩ hP.2.1 (by have := hP.1; omega) (by decide) rfl (by decide) q1139 (Or.inr ⟨rfl, rfl, rfl⟩) ⟨.array .int, by decide +kernel, .inr ⟨_, rfl⟩⟩ (by decide) ?_
      exact at12 _ _ (jy_P_s hP (by decide) rfl rfl (by decide))
    refine jx_s_aload_n (n := 0) (by decide +kernel) rfl ?_
    refine jx_s_objinit (idx := 1) (by decide +kernel) q1130 (by decide) hy0 (by decide) ?_
    exact at4 g M (jy_P0 hg0 hg1)
  · exact hS.elim
