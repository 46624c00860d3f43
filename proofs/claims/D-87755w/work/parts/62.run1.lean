/-! RUNS of LoopLane: an act works; operands -/
set_option maxRecDepth 100000
def xC (x : Int) (Q : jx_M) (g : jx_S) (M : jx_M) : Prop := rSh x g ∧ rBd x Q g M ∧ rSl x Q g M ∧ mB Q ∧ mm_whole Q ∧ mm_rows Q
/-- an operand -/
def xo (Q : jx_M) (a i t : Int) : Int := if i < mm_nop (Q 1 a) then mm_val Q a i t else 0
theorem mm_same_Z {S Q : jx_M} (h : mm_same S Q) : mZ S Q := ⟨fun j a b => funext fun k => h.1 j k (by omega) (by omega) (by omega), h.2 9 (by decide), h.2 15 (by decide)⟩
theorem mm_whole_same {S Q : jx_M} (h : mm_same S Q) (hw : mm_whole S) : mm_whole Q := fun k k0 k1 => by
  rw [h.2 9 (by decide)] at k1 ⊢
  rw [h.1 6 k (by decide) (by decide) (by decide)]
  exact hw k k0 k1
theorem xo_0 {Q : jx_M} {a t : Int} (h : ¬ Q 1 a = 0) : xo Q a 0 t = mm_x Q a t := by
  unfold xo mm_x
  rw [if_neg h, if_pos]
  unfold mm_nop
  rw [if_neg h]
  split
  · decide
  · split <;> decide
theorem xo_1 {Q : jx_M} {a t : Int} (hA : mm_act Q a) (h : ¬ (Q 1 a = 0 ∨ Q 1 a = 4)) : xo Q a 1 t = mm_y Q a t := by
  have h6 := hA.2.2.2.2.2.2 h
  have n1 : 1 < mm_nop (Q 1 a) := by
    unfold mm_nop
    rw [if_neg (by omega), if_neg (by omega)]
    split <;> decide
  unfold xo mm_y
  rw [if_pos n1, if_neg (by omega)]
theorem xo_2 {Q : jx_M} {a t : Int} (h : Q 1 a = 6) : xo Q a 2 t = mm_val Q a 2 t := by
  unfold xo
  rw [if_pos]
  unfold mm_nop
  rw [h]
  decide
theorem f_place_in {p n : Int} (hn : n ≤ 40) : (0 ≤ f_place p ∧ f_place p < n) ↔ (0 ≤ p ∧ p < n) := by
  unfold f_place
  split <;> omega
theorem f_place_eq {p : Int} (h : 0 ≤ p ∧ p ≤ 40) : f_place p = p := if_neg (by omega)
/-- an act that is not refused -/
theorem xw_Y {x a t i p q r : Int} {Q : jx_M} {g : jx_S} {M : jx_M} (hC : xC x Q g M) (a0 : 0 ≤ a) (a1 : a < Q 0 9) (hp : p = xo Q a 0 t) (hq : q = xo Q a 1 t) (hr : r = xo Q a 2 t) (hy : mm_dwhy Q a t = 0) :
    xw_ok g M (x + 3) (M (x + 13) a) p q ∧ xw_end g M (x + 3) (M (x + 13) a) p q r = mm_dend Q a t ∧
    ∀ v, rSl x (mm_dput Q a t) g (jx_u (xw_put g M (x + 3) (M (x + 13) a) p q) (x + 43) i v) ∧ (∀ z k, z < x + 430 → ¬ (z = x + 43 ∧ k = i) → jx_u (xw_put g M (x + 3) (M (x + 13) a) p q) (x + 43) i v z k = M z k) := by
  obtain ⟨hs, hb, hl, hB, hw, hrw⟩ := hC
  have hA := hb.2.2.1 a a0 a1
  have hact := mB_act hB a0 a1
  have x0 := hs.1
  obtain ⟨A, eA⟩ : ∃ A, A = M (x + 13) a := ⟨_, rfl⟩
  have hk : ((g.2 A).1 : Int) = 66 + Q 1 a := by rw [eA]; exact hA.2.2.1.1
  have h7 : Q 1 a = 0 → M A 7 = Q 9 a := by rw [eA]; exact hA.2.2.2.2.2.2.2.2.2.1
  have h75 : (Q 1 a = 4 ∨ Q 1 a = 5) → M A 7 = Q 5 a := by rw [eA]; exact hA.2.2.2.2.2.2.2.2.2.2
  rw [← eA]
  -- where nothing but the end is written
  have plain : (g.2 A).1 ≠ 71 → ¬ Q 1 a = 5 → ∀ v, rSl x (mm_dput Q a t) g (jx_u (xw_put g M (x + 3) A p q) (x + 43) i v) ∧ (∀ z k, z < x + 430 → ¬ (z = x + 43 ∧ k = i) → jx_u (xw_put g M (x + 3) A p q) (x + 43) i v z k = M z k) := by
    intro c5 c6 v
    unfold xw_put mm_dput
    rw [if_neg c5, if_neg c6]
    exact ⟨rSl_S (rSl_c hl (fun z k w => jx_u_a _ _ _ _ _ _ (by unfold qSl at w; omega))) (jx_u_row (by decide)) (jx_u_row (by decide)) (jx_u_row (by decide)), fun z k _ h => if_neg h⟩
  have h01 := hact.1
  rcases (show Q 1 a = 0 ∨ Q 1 a = 1 ∨ Q 1 a = 2 ∨ Q 1 a = 3 ∨ Q 1 a = 6 ∨ (Q 1 a = 4 ∨ Q 1 a = 5) by omega) with c | c | c | c | c | c
  · have e : (g.2 A).1 = 66 := by omega
    refine ⟨⟨fun z => by omega, fun z => by omega⟩, ?_, plain (by omega) (by omega)⟩
    unfold xw_end mm_dend mm_x
    rw [if_pos e, if_pos c, if_pos c]
    exact h7 c
  · have e : (g.2 A).1 = 67 := by omega
    refine ⟨⟨fun z => by omega, fun z => by omega⟩, ?_, plain (by omega) (by omega)⟩
    unfold xw_end mm_dend
    rw [if_neg (by omega), if_pos e, if_neg (by omega), if_pos c, hp, hq, xo_0 (by omega), xo_1 hact (by omega)]
  · have e : (g.2 A).1 = 68 := by omega
    refine ⟨⟨fun z => by omega, fun z => by omega⟩, ?_, plain (by omega) (by omega)⟩
    unfold xw_end mm_dend
    rw [if_neg (by omega), if_neg (by omega), if_pos e, if_neg (by omega), if_neg (by omega), if_pos c, hp, hq, xo_0 (by omega), xo_1 hact (by omega)]
  · have e : (g.2 A).1 = 69 := by omega
    refine ⟨⟨fun _ => ?_, fun z => by omega⟩, ?_, plain (by omega) (by omega)⟩
    · unfold mm_dwhy at hy
      rw [if_pos c] at hy
      rw [hq, xo_1 hact (by omega)]
      intro z
      rw [if_pos z] at hy
      omega
    · unfold xw_end mm_dend
      rw [if_neg (by omega), if_neg (by omega), if_neg (by omega), if_pos e, if_neg (by omega), if_neg (by omega), if_neg (by omega), if_pos c, hp, hq, xo_0 (by omega), xo_1 hact (by omega)]
  · have e : (g.2 A).1 = 72 := by omega
    refine ⟨⟨fun z => by omega, fun z => by omega⟩, ?_, plain (by omega) (by omega)⟩
    have ed : mm_dend Q a t = if mm_x Q a t = 0 then mm_val Q a 2 t else mm_y Q a t := by
      unfold mm_dend
      rw [if_neg (by omega), if_neg (by omega), if_neg (by omega), if_neg (by omega), if_pos c]
    unfold xw_end
    rw [if_neg (by omega), if_neg (by omega), if_neg (by omega), if_neg (by omega), if_pos e, ed, hp, hq, hr, xo_0 (by omega), xo_1 hact (by omega), xo_2 c]
  · have h5 := hact.2.1 c
    have hx := mm_dwhy_x c hy
    have r5 := hrw _ h5.1 h5.2
    have hs1 := (hl.1 _ h5.1 h5.2).2 hx.1
    have hs2 := hs1.2.1 hx.2.1
    have ez : xw_z M (x + 3) A = M (x + 5 + Q 5 a) 0 := by unfold xw_z; rw [h75 c, show x + 3 + 2 + Q 5 a = x + 5 + Q 5 a by omega]
    have ep : p = mm_x Q a t := by rw [hp, xo_0 (by omega)]
    have ef : f_place p = mm_x Q a t := by rw [ep]; exact f_place_eq (by omega)
    refine ⟨⟨fun z => by omega, fun _ => ⟨by rw [h75 c]; exact h5, by rw [ez]; omega, Q 21 (Q 5 a), by rw [ez]; exact hs2.1, by rw [ef]; exact hx.2.2⟩⟩, ?_, ?_⟩
    · unfold xw_end mm_dend
      rw [if_neg (by omega), if_neg (by omega), if_neg (by omega), if_neg (by omega), if_neg (by omega), if_neg (by omega), if_neg (by omega), if_neg (by omega), if_neg (by omega), if_neg (by omega), ez, ef]
      exact hs2.2 _ hx.2.2.1 hx.2.2.2
    · by_cases c5 : Q 1 a = 5
      · have eq : q = mm_y Q a t := by rw [hq, xo_1 hact (by omega)]
        intro v
        unfold xw_put mm_dput
        rw [if_pos c5, if_pos (show (g.2 A).1 = 71 by omega), ez, ef, eq]
        refine ⟨rSl_S (rSl_c (rSl_set hrw x0 h5 hx.1 hx.2.1 hx.2.2 hl) (fun z k w => jx_u_a _ _ _ _ _ _ (by unfold qSl at w; omega))) (jx_u_row (by decide)) (jx_u_row (by decide)) (jx_u_row (by decide)), fun z k zz h => ?_⟩
        exact (show jx_u _ (x + 43) i v z k = _ from if_neg h).trans (jx_u_a _ _ _ _ _ _ (by omega))
      · exact plain (by omega) c5
/-- an act that is refused -/
theorem xw_N {x a t p q : Int} {Q : jx_M} {g : jx_S} {M : jx_M} {Po : jx_Po} (hC : xC x Q g M) (a0 : 0 ≤ a) (a1 : a < Q 0 9) (hp : p = xo Q a 0 t) (hq : q = xo Q a 1 t) (hy : mm_dwhy Q a t ≠ 0) (hP : ∀ m : Nat, m = 1 ∨ m = 3 → Po (0, 0, mm_dwhy Q a t) (g.1 + m, g.2) M) :
    ((69 ≤ (g.2 (M (x + 13) a)).1 ∧ (g.2 (M (x + 13) a)).1 ≤ 71) ∧ (g.2 (M (x + 13) a)).2 = 0 ∧ 0 ≤ M (x + 13) a) ∧ ((g.2 (M (x + 13) a)).1 = 69 → q = 0 ∧ Po (0, 0, -8) (g.1 + 3, g.2) M) ∧
     (((g.2 (M (x + 13) a)).1 = 70 ∨ (g.2 (M (x + 13) a)).1 = 71) → (0 ≤ M (M (x + 13) a) 7 ∧ M (M (x + 13) a) 7 < 8) ∧ (xw_z M (x + 3) (M (x + 13) a) < 0 → Po (0, 0, -2) (g.1 + 1, g.2) M) ∧
      (0 ≤ xw_z M (x + 3) (M (x + 13) a) → (∃ n, g.2 (xw_z M (x + 3) (M (x + 13) a)) = (11, n) ∧ ¬ (0 ≤ f_place p ∧ f_place p < n) ∧ Po (0, 0, -3) (g.1 + 3, g.2) M) ∨ (∃ n, g.2 (xw_z M (x + 3) (M (x + 13) a)) = (10, n) ∧ Po (0, 0, -5) (g.1 + 3, g.2) M))) := by
  obtain ⟨hs, hb, hl, hB, hw, hrw⟩ := hC
  have hA := hb.2.2.1 a a0 a1
  have hact := mB_act hB a0 a1
  have x0 := hs.1
  have ad := rA_ad hA a0 (by have := hB.1; omega)
  obtain ⟨A, eA⟩ : ∃ A, A = M (x + 13) a := ⟨_, rfl⟩
  have hk : ((g.2 A).1 : Int) = 66 + Q 1 a := by rw [eA]; exact hA.2.2.1.1
  have hk2 : (g.2 A).2 = 0 := by rw [eA]; exact hA.2.2.1.2
  have h75 : (Q 1 a = 4 ∨ Q 1 a = 5) → M A 7 = Q 5 a := by rw [eA]; exact hA.2.2.2.2.2.2.2.2.2.2
  rw [← eA] at ad ⊢
  have h01 := hact.1
  rcases (show Q 1 a = 3 ∨ (Q 1 a = 4 ∨ Q 1 a = 5) ∨ ¬ (Q 1 a = 3 ∨ (Q 1 a = 4 ∨ Q 1 a = 5)) by omega) with c | c | c
  · refine ⟨⟨⟨by omega, by omega⟩, hk2, by omega⟩, fun _ => ?_, fun z => by omega⟩
    unfold mm_dwhy at hy hP
    rw [if_pos c] at hy hP
    have e : mm_y Q a t = 0 := by
      apply Classical.byContradiction
      intro z
      rw [if_neg z] at hy
      exact hy rfl
    rw [if_pos e] at hP
    exact ⟨by rw [hq, xo_1 hact (by omega)]; exact e, hP 3 (.inr rfl)⟩
  · have h5 := hact.2.1 c
    refine ⟨⟨⟨by omega, by omega⟩, hk2, by omega⟩, fun z => by omega, fun _ => ⟨by rw [h75 c]; exact h5, ?_⟩⟩
    have ez : xw_z M (x + 3) A = M (x + 5 + Q 5 a) 0 := by unfold xw_z; rw [h75 c, show x + 3 + 2 + Q 5 a = x + 5 + Q 5 a by omega]
    have ep : p = mm_x Q a t := by rw [hp, xo_0 (by omega)]
    have r5 := hrw _ h5.1 h5.2
    have s5 := hl.1 _ h5.1 h5.2
    rw [ez]
    unfold mm_dwhy mm_why at hy hP
    rw [if_neg (by omega), if_pos c] at hy hP
    by_cases d1 : Q 21 (Q 5 a) = 0
    · rw [if_pos d1] at hP
      have := s5.1 d1
      exact ⟨fun _ => hP 1 (.inl rfl), fun z => by omega⟩
    · have s6 := s5.2 d1
      refine ⟨fun z => by omega, fun _ => ?_⟩
      rw [if_neg d1] at hy hP
      by_cases d2 : Q 22 (Q 5 a) = 0
      · rw [if_pos d2] at hP
        exact .inr ⟨_, s6.2.2 d2, hP 3 (.inr rfl)⟩
      · rw [if_neg d2] at hy hP
        by_cases d3 : 0 ≤ mm_x Q a t ∧ mm_x Q a t < Q 21 (Q 5 a)
        · rw [if_pos d3] at hy
          exact absurd rfl hy
        · rw [if_neg d3] at hP
          exact .inl ⟨_, (s6.2.1 d2).1, fun z => d3 ((ep ▸ (f_place_in (by omega)).mp z)), hP 3 (.inr rfl)⟩
  · unfold mm_dwhy at hy
    rw [if_neg (by omega), if_neg (by omega)] at hy
    exact absurd rfl hy
def js_X0_plainly : jx_Sp := fun as g M Po => match as with
  | [(60, _, x), (80, _, A), (0, _, i), (0, _, t)] => ∃ Q a, (xC x Q g M ∧ (0 ≤ a ∧ a < Q 0 9) ∧ A = M (x + 13) a ∧ (0 ≤ i ∧ i < 3) ∧ (0 ≤ t ∧ t < 200) ∧ (i < mm_nop (Q 1 a) → 0 ≤ t - Q 7 (3 * a + i) → M (x + 43) (16 * (t - Q 7 (3 * a + i)) + Q 6 (3 * a + i)) = Q 32 (16 * (t - Q 7 (3 * a + i)) + Q 6 (3 * a + i)))) ∧ Po (1, 0, xo Q a i t) g M
  | _ => False
set_option maxHeartbeats 4000000 in
theorem jt_X0_plainly (l : Launch) : jx_Ct l yX0_plainly (ws_ yX0_plainly cX0_plainly 5 (some .long)) 0 0 0 js_X0_plainly := by
  refine jx_Ct_c (rc := 1) (by decide) rfl (fun D as g M Po hS => ?_)
  unfold js_X0_plainly at hS
  split at hS
  · rename_i n1 x n2 A n3 i n4 t
    obtain ⟨Q, a, ⟨⟨hs, hb, hl, hB, hw, hrw⟩, ha, rfl, hi, ht, hv⟩, hP⟩ := hS
    have hA := hb.2.2.1 a ha.1 ha.2
    have x0 := hs.1
    have h9 := hB.1
    have hm := rA_many hA
    have nop := mm_nop_3 (Q 1 a)
    refine ⟨Nat.le_of_ble_eq_true rfl, ?_⟩
    by_cases c : i < mm_nop (Q 1 a)
    · have op := (hB.2.2.2.1 a i ha.1 ha.2 hi.1 hi.2).1 c
      have wh := hw (3 * a + i) (by omega) (by omega)
      have eo := rA_of hA hi.1 c
      have ek := rA_back hA hi.1 c
      have hA2 := hb.2.2.1 (Q 6 (3 * a + i)) op.1.1 wh
      have k3 := rA_k3 hA2 x0 op.1.1
      have ef := rA_first hA2
      have hv := hv c
      unfold xo mm_val at hP
      rw [if_pos c] at hP
      refine jx_runL (o := jo_X0) (cs := []) (hf := jx_nh) jo_X0_ok jx_cs0 (jx_HK_nil rfl) (fun _ => false) 40 ?_
      simp only [jw, ju, jx_tg, Int.cast_ofNat_Int, Int.reduceAdd, Int.reduceToNat, Nat.reduceAdd, Nat.reduceMul, Nat.reduceBEq, Nat.reduceLeDiff, Int.reduceLE, Int.reduceLT, Int.reduceEq, Int.reduceNeg, Int.reduceSub, Int.reduceMul, not_false_eq_true, true_and, and_true, and_self, Bool.or_false, Bool.false_or, Bool.or_true, Bool.true_or, List.length_nil, List.length_cons, Nat.zero_le, or_true, true_or, Nat.le_refl, ↓reduceIte, Nat.reduceEqDiff, forall_const, false_and, and_false, false_implies, implies_true, not_true_eq_false, or_false, false_or, ne_eq, jd_X0_plainly, jf_X0, hm, eo, ek, ef]
      refine ⟨⟨by omega, by omega⟩, fun _ => ⟨by omega, by omega, fun d => ?_, fun d => ?_⟩, fun z => absurd c z⟩
      · rw [if_neg (by omega)] at hP
        refine ⟨by omega, by omega, ?_⟩
        rw [hv (by omega)]
        exact hP
      · rw [if_pos (by omega)] at hP
        exact ⟨by omega, by omega, k3, hP⟩
    · unfold xo at hP
      rw [if_neg c] at hP
      refine jx_runL (o := jo_X0) (cs := []) (hf := jx_nh) jo_X0_ok jx_cs0 (jx_HK_nil rfl) (fun p => p == 10) 40 ?_
      simp only [jw, ju, jx_tg, Int.cast_ofNat_Int, Int.reduceAdd, Int.reduceToNat, Nat.reduceAdd, Nat.reduceMul, Nat.reduceBEq, Nat.reduceLeDiff, Int.reduceLE, Int.reduceLT, Int.reduceEq, Int.reduceNeg, Int.reduceSub, Int.reduceMul, not_false_eq_true, true_and, and_true, and_self, Bool.or_false, Bool.false_or, Bool.or_true, Bool.true_or, List.length_nil, List.length_cons, Nat.zero_le, or_true, true_or, Nat.le_refl, ↓reduceIte, Nat.reduceEqDiff, forall_const, false_and, and_false, false_implies, implies_true, not_true_eq_false, or_false, false_or, ne_eq, jd_X0_plainly, jf_X0, hm]
      exact ⟨⟨by omega, by omega⟩, fun z => absurd z c, fun _ => hP⟩
  · exact hS.elim
def js_X0_named : jx_Sp := fun as g M Po => match as with
  | [(60, _, x), (80, _, A), (0, _, i), (0, _, t)] => ∃ Q a, (xC x Q g M ∧ (0 ≤ a ∧ a < Q 0 9) ∧ A = M (x + 13) a ∧ (0 ≤ i ∧ i < 3) ∧ (0 ≤ t ∧ t < 200) ∧ (i < mm_nop (Q 1 a) → 0 ≤ t - Q 7 (3 * a + i) → (1 ≤ M (x + 45) (Q 6 (3 * a + i)) ∧ M (x + 45) (Q 6 (3 * a + i)) ≤ 1000) ∧ M (x + 44) (1000 * Q 6 (3 * a + i) + (t - Q 7 (3 * a + i)) % M (x + 45) (Q 6 (3 * a + i))) = Q 32 (16 * (t - Q 7 (3 * a + i)) + Q 6 (3 * a + i)))) ∧ Po (1, 0, xo Q a i t) g M
  | _ => False
set_option maxHeartbeats 4000000 in
theorem jt_X0_named (l : Launch) : jx_Ct l yX0_named (ws_ yX0_named cX0_named 6 (some .long)) 0 0 0 js_X0_named := by
  refine jx_Ct_c (rc := 1) (by decide) rfl (fun D as g M Po hS => ?_)
  unfold js_X0_named at hS
  split at hS
  · rename_i n1 x n2 A n3 i n4 t
    obtain ⟨Q, a, ⟨⟨hs, hb, hl, hB, hw, hrw⟩, ha, rfl, hi, ht, hv⟩, hP⟩ := hS
    have hA := hb.2.2.1 a ha.1 ha.2
    have x0 := hs.1
    have h9 := hB.1
    have hm := rA_many hA
    have nop := mm_nop_3 (Q 1 a)
    refine ⟨Nat.le_of_ble_eq_true rfl, ?_⟩
    by_cases c : i < mm_nop (Q 1 a)
    · have op := (hB.2.2.2.1 a i ha.1 ha.2 hi.1 hi.2).1 c
      have wh := hw (3 * a + i) (by omega) (by omega)
      have eo := rA_of hA hi.1 c
      have ek := rA_back hA hi.1 c
      have hA2 := hb.2.2.1 (Q 6 (3 * a + i)) op.1.1 wh
      have k3 := rA_k3 hA2 x0 op.1.1
      have ef := rA_first hA2
      have hv := hv c
      unfold xo mm_val at hP
      rw [if_pos c] at hP
      refine jx_runL (o := jo_X0) (cs := []) (hf := jx_nh) jo_X0_ok jx_cs0 (jx_HK_nil rfl) (fun _ => false) 40 ?_
      simp only [jw, ju, jx_tg, Int.cast_ofNat_Int, Int.reduceAdd, Int.reduceToNat, Nat.reduceAdd, Nat.reduceMul, Nat.reduceBEq, Nat.reduceLeDiff, Int.reduceLE, Int.reduceLT, Int.reduceEq, Int.reduceNeg, Int.reduceSub, Int.reduceMul, not_false_eq_true, true_and, and_true, and_self, Bool.or_false, Bool.false_or, Bool.or_true, Bool.true_or, List.length_nil, List.length_cons, Nat.zero_le, or_true, true_or, Nat.le_refl, ↓reduceIte, Nat.reduceEqDiff, forall_const, false_and, and_false, false_implies, implies_true, not_true_eq_false, or_false, false_or, ne_eq, jd_X0_named, jf_X0, hm, eo, ek, ef]
      refine ⟨⟨by omega, by omega⟩, fun _ => ⟨by omega, by omega, by omega, fun d => ?_, fun d => ?_⟩, fun z => absurd c z⟩
      · rw [if_neg (by omega)] at hP
        have hv2 := hv (by omega)
        have md := Int.emod_lt_of_pos (t - Q 7 (3 * a + i)) (show 0 < M (x + 45) (Q 6 (3 * a + i)) by omega)
        have md0 := Int.emod_nonneg (t - Q 7 (3 * a + i)) (show M (x + 45) (Q 6 (3 * a + i)) ≠ 0 by omega)
        rw [Int.tmod_eq_emod_of_nonneg (show 0 ≤ t - Q 7 (3 * a + i) by omega)]
        refine ⟨by omega, by omega, by omega, ?_⟩
        rw [hv2.2]
        exact hP
      · rw [if_pos (by omega)] at hP
        exact ⟨by omega, k3, hP⟩
    · unfold xo at hP
      rw [if_neg c] at hP
      refine jx_runL (o := jo_X0) (cs := []) (hf := jx_nh) jo_X0_ok jx_cs0 (jx_HK_nil rfl) (fun p => p == 10) 40 ?_
      simp only [jw, ju, jx_tg, Int.cast_ofNat_Int, Int.reduceAdd, Int.reduceToNat, Nat.reduceAdd, Nat.reduceMul, Nat.reduceBEq, Nat.reduceLeDiff, Int.reduceLE, Int.reduceLT, Int.reduceEq, Int.reduceNeg, Int.reduceSub, Int.reduceMul, not_false_eq_true, true_and, and_true, and_self, Bool.or_false, Bool.false_or, Bool.or_true, Bool.true_or, List.length_nil, List.length_cons, Nat.zero_le, or_true, true_or, Nat.le_refl, ↓reduceIte, Nat.reduceEqDiff, forall_const, false_and, and_false, false_implies, implies_true, not_true_eq_false, or_false, false_or, ne_eq, jd_X0_named, jf_X0, hm]
      exact ⟨⟨by omega, by omega⟩, fun z => absurd z c, fun _ => hP⟩
  · exact hS.elim
