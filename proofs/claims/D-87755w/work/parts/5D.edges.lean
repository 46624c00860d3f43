/-! LoopLane's edges: the maths -/
set_option maxRecDepth 100000
theorem mm_sum_add {f g : Int → Int} : ∀ n : Nat, mm_sum (fun v => f v + g v) n = mm_sum f n + mm_sum g n
  | 0 => rfl
  | n + 1 => by
    show mm_sum (fun v => f v + g v) n + (f n + g n) = (mm_sum f n + f n) + (mm_sum g n + g n)
    rw [mm_sum_add n]
    omega
theorem mm_sum_z : ∀ n : Nat, mm_sum (fun _ => 0) n = 0
  | 0 => rfl
  | n + 1 => by
    show mm_sum (fun _ => 0) n + 0 = 0
    rw [mm_sum_z n]
    rfl
theorem mm_sum_z0 {f : Int → Int} {n : Nat} (h : ∀ v : Int, 0 ≤ v → v < n → f v = 0) : mm_sum f n = 0 := (mm_sum_eq n h).trans (mm_sum_z n)
theorem mm_sum_swap (w : Int → Int → Int) (m : Nat) : ∀ n : Nat, mm_sum (fun b => mm_sum (fun a => w a b) m) n = mm_sum (fun a => mm_sum (fun b => w a b) n) m
  | 0 => (mm_sum_z m).symm
  | n + 1 => by
    show mm_sum (fun b => mm_sum (fun a => w a b) m) n + mm_sum (fun a => w a n) m = mm_sum (fun a => mm_sum (fun b => w a b) n + w a n) m
    rw [mm_sum_swap w m n, mm_sum_add m]
theorem mm_sum_up {f : Int → Int} {m : Nat} : ∀ n : Nat, m ≤ n → (∀ v : Int, 0 ≤ v → v < n → 0 ≤ f v) → mm_sum f m ≤ mm_sum f n
  | 0, h, _ => by
    rw [show m = 0 by omega]
    exact Int.le_refl _
  | n + 1, h, h0 => by
    by_cases c : m = n + 1
    · rw [c]
      exact Int.le_refl _
    · have ih := mm_sum_up (f := f) (m := m) n (by omega) (fun v a b => h0 v a (by omega))
      have := h0 n (by omega) (by omega)
      show mm_sum f m ≤ mm_sum f n + f n
      omega
/-- numbers of edges, act by act as LoopLane links them -/
noncomputable def xe_w (S : jx_M) (a b : Int) : Int := @ite _ (me_rw S a b) (Classical.propDecidable _) 2 0
noncomputable def xe_v (S : jx_M) (a b : Int) : Int := @ite _ (me_bh S a b) (Classical.propDecidable _) (if a < b then 2 else 1) 0
theorem me_cn_wv {S : jx_M} {a b : Int} : me_cn S a b = xe_w S a b + xe_v S a b := rfl
theorem xe_w_r {S : jx_M} {a b : Int} : 0 ≤ xe_w S a b ∧ xe_w S a b ≤ 2 := by
  unfold xe_w
  split <;> omega
theorem xe_v_r {S : jx_M} {a b : Int} : 0 ≤ xe_v S a b ∧ xe_v S a b ≤ 2 := by
  unfold xe_v
  split
  · split <;> omega
  · omega
noncomputable def xe_cr (S : jx_M) (a : Int) (n : Nat) : Int := mm_sum (fun b => xe_w S a b) n
noncomputable def xe_cs (S : jx_M) (b : Int) (n : Nat) : Int := mm_sum (fun a => xe_v S a b) n
def xe_1 (S : jx_M) (b : Int) : Int := if S 1 b = 5 then 1 else 0
noncomputable def xe_c (S : jx_M) (b : Int) : Int := me_co S b 3 + (xe_cr S b (S 0 9).toNat + xe_1 S b) + xe_cs S b (S 0 9).toNat
theorem xe_cr_r {S : jx_M} {a : Int} (n : Nat) : 0 ≤ xe_cr S a n := mm_sum_0 n (fun _ _ _ => xe_w_r.1)
theorem xe_cs_r {S : jx_M} {a : Int} (n : Nat) : 0 ≤ xe_cs S a n := mm_sum_0 n (fun _ _ _ => xe_v_r.1)
theorem xe_1_r {S : jx_M} {a : Int} : 0 ≤ xe_1 S a ∧ xe_1 S a ≤ 1 := by
  unfold xe_1
  split <;> omega
theorem xe_c_r {S : jx_M} {b : Int} : 0 ≤ xe_c S b := by
  have := @xe_cr_r S b (S 0 9).toNat
  have := @xe_cs_r S b (S 0 9).toNat
  have := @xe_1_r S b
  have := @me_co_r S b 3
  unfold xe_c
  omega
theorem xe_n {S : jx_M} : mm_sum (xe_c S) (S 0 9).toNat = me_n S := by
  have h1 : mm_sum (xe_c S) (S 0 9).toNat = mm_sum (fun b => (me_co S b 3 + xe_1 S b + xe_cs S b (S 0 9).toNat) + xe_cr S b (S 0 9).toNat) (S 0 9).toNat := mm_sum_eq _ (fun v _ _ => by unfold xe_c; omega)
  have h2 : me_n S = mm_sum (fun b => (me_co S b 3 + xe_1 S b + xe_cs S b (S 0 9).toNat) + mm_sum (fun a => xe_w S a b) (S 0 9).toNat) (S 0 9).toNat := by
    unfold me_n
    refine mm_sum_eq _ (fun v _ _ => ?_)
    have e : me_ct S v (S 0 9).toNat = mm_sum (fun a => xe_w S a v) (S 0 9).toNat + xe_cs S v (S 0 9).toNat := by
      unfold me_ct xe_cs
      rw [← mm_sum_add]
      exact mm_sum_eq _ (fun a _ _ => me_cn_wv)
    unfold me_cb xe_1
    rw [e]
    omega
  rw [h1, h2, mm_sum_add, mm_sum_add (f := fun b => me_co S b 3 + xe_1 S b + xe_cs S b (S 0 9).toNat), mm_sum_swap]
  rfl
/-- however far it has come, there is room -/
theorem xe_room {S : jx_M} (hn : 0 ≤ S 0 9 ∧ S 0 9 ≤ 16) {b : Nat} (hb : (b : Int) < S 0 9) : 0 ≤ mm_sum (xe_c S) b ∧ mm_sum (xe_c S) b + xe_c S b ≤ 664 := by
  have h := mm_sum_up (f := xe_c S) (m := b + 1) (S 0 9).toNat (by omega) (fun _ _ _ => xe_c_r)
  rw [xe_n] at h
  have := (me_n_r hn).2
  refine ⟨mm_sum_0 _ (fun _ _ _ => xe_c_r), ?_⟩
  have e : mm_sum (xe_c S) (b + 1) = mm_sum (xe_c S) b + xe_c S b := rfl
  omega
/-- sets -/
def xe_rw (S : jx_M) (a n : Int) : mm_E := fun a' b' t d => ∃ b, a < b ∧ b < n ∧ me_rw S a b ∧ ((a' = a ∧ b' = b ∧ t = 1 ∧ d = 0) ∨ (a' = b ∧ b' = a ∧ t = 1 ∧ d = 1))
def xe_sf (S : jx_M) (a : Int) : mm_E := fun a' b' t d => S 1 a = 5 ∧ a' = a ∧ b' = a ∧ t = 1 ∧ d = 1
def xe_st (S : jx_M) (b n : Int) : mm_E := fun a' b' t d => ∃ a, 0 ≤ a ∧ a < n ∧ me_bh S a b ∧ ((a < b ∧ a' = a ∧ b' = b ∧ t = 1 ∧ d = 0) ∨ (a' = a ∧ b' = b ∧ t = 1 ∧ d = 1))
def xe_b (S : jx_M) (b : Int) : mm_E := mm_EU (mm_EU (me_ops S b 3) (mm_EU (xe_rw S b (S 0 9)) (xe_sf S b))) (xe_st S b (S 0 9))
def xe_body (S : jx_M) (n : Int) : mm_E := fun a' b' t d => ∃ b, 0 ≤ b ∧ b < n ∧ xe_b S b a' b' t d
theorem xe_body_iff {S : jx_M} (a' b' t d : Int) : xe_body S (S 0 9) a' b' t d ↔ me_body S (S 0 9) a' b' t d := by
  constructor
  · rintro ⟨b, b0, b1, ((h | h | h) | h)⟩
    · exact ⟨b, b0, b1, .inl h⟩
    · obtain ⟨c, c0, c1, c2, c3⟩ := h
      exact ⟨c, by omega, c1, .inr (.inr ⟨b, b0, b1, .inl ⟨c2, c3⟩⟩)⟩
    · exact ⟨b, b0, b1, .inr (.inl h)⟩
    · obtain ⟨a, a0, a1, a2, a3⟩ := h
      exact ⟨b, b0, b1, .inr (.inr ⟨a, a0, a1, .inr ⟨a2, a3⟩⟩)⟩
  · rintro ⟨b, b0, b1, h | h | ⟨a, a0, a1, ⟨h1, h2⟩ | ⟨h1, h2⟩⟩⟩
    · exact ⟨b, b0, b1, .inl (.inl h)⟩
    · exact ⟨b, b0, b1, .inl (.inr (.inr h))⟩
    · exact ⟨a, a0, a1, .inl (.inr (.inl ⟨b, h1.1, b1, h1, h2⟩))⟩
    · exact ⟨b, b0, b1, .inr ⟨a, a0, a1, h1, h2⟩⟩
/-! link, linkRows, linkStore, findEdges -/
abbrev rEx (x : Int) (M M' : jx_M) (P : mm_E) (c : Int) : Prop := mEx (x + 26) (x + 27) (x + 28) (x + 29) x 23 M M' P c
def xu_link (M : jx_M) (x a b t d : Int) : jx_M := mu_ent (x + 26) (x + 27) (x + 28) (x + 29) x 23 M a b t d
theorem rEx_ent {x a b t d : Int} {M : jx_M} (h0 : 0 ≤ M x 23) : rEx x M (xu_link M x a b t d) (mm_E1 a b t d) 1 := mEx_ent h0 (by omega)
theorem rEx_B {x c : Int} {S : jx_M} {g : jx_S} {M M' : jx_M} {P : mm_E} (hS : S 0 9 ≤ 16) (h : rEx x M M' P c) (hB : rBd x S g M) : rBd x S g M' := rBd_c hS hB (fun z k q => h.2.2 z k (by unfold qBd at q; omega) (by unfold qBd at q; omega) (by unfold qBd at q; omega) (by unfold qBd at q; omega) (by unfold qBd at q; omega))
def js_X0_link : jx_Sp := fun as g M Po => match as with
  | [(60, _, x), (0, _, a), (0, _, b), (0, _, t), (0, _, d)] => (0 ≤ M x 23 ∧ M x 23 < 900) ∧ Po (3, 0, 0) g (xu_link M x a b t d)
  | _ => False
set_option maxHeartbeats 4000000 in
theorem jt_X0_link (l : Launch) : jx_Ct l yX0_link (ws_ yX0_link cX0_link 5 none) 0 0 0 js_X0_link := by
  refine jx_Ct_c (rc := 3) (by decide) rfl (fun D as g M Po hS => ?_)
  unfold js_X0_link at hS
  split at hS
  · rename_i n1 y n2 a n3 b n4 t n5 d
    refine ⟨Nat.le_of_ble_eq_true rfl, ?_⟩
    refine jx_runL (o := jo_X0) (cs := []) (hf := jx_nh) jo_X0_ok jx_cs0 (jx_HK_nil rfl) (fun _ => false) 40 ?_
    simp only [jw, ju, jx_tg, Int.cast_ofNat_Int, Int.reduceAdd, Int.reduceToNat, Nat.reduceAdd, Nat.reduceMul, Nat.reduceBEq, Nat.reduceLeDiff, Int.reduceLE, Int.reduceLT, Int.reduceEq, Int.reduceNeg, Int.reduceSub, Int.reduceMul, not_false_eq_true, true_and, and_true, and_self, Bool.or_false, Bool.false_or, Bool.or_true, Bool.true_or, List.length_nil, List.length_cons, Nat.zero_le, or_true, true_or, Nat.le_refl, ↓reduceIte, Nat.reduceEqDiff, forall_const, false_and, and_false, false_implies, implies_true, not_true_eq_false, or_false, false_or, ne_eq, jd_X0_link, jf_X0]
    exact ⟨hS.1, hS.1, hS.1, hS.1, hS.2⟩
  · exact hS.elim
/-- an act's cell as its methods want it -/
theorem rA_k {x a : Int} {S : jx_M} {g : jx_S} {M : jx_M} (h : rA x S g M a) (hx : 0 ≤ x) (a0 : 0 ≤ a) : xk g (M (x + 13) a) 0 := by
  have h1 := h.1
  have h2 := h.2.1
  have h3 := h.2.2.1
  refine ⟨⟨by omega, by omega⟩, h3.2, by omega⟩
theorem rA_k3 {x a : Int} {S : jx_M} {g : jx_S} {M : jx_M} (h : rA x S g M a) (hx : 0 ≤ x) (a0 : 0 ≤ a) : 66 ≤ (g.2 (M (x + 13) a)).1 ∧ (g.2 (M (x + 13) a)).1 ≤ 72 ∧ (g.2 (M (x + 13) a)).2 = 0 := by
  have h1 := h.1
  have h3 := h.2.2.1
  refine ⟨by omega, by omega, h3.2⟩
theorem rA_sort {x a : Int} {S : jx_M} {g : jx_S} {M : jx_M} (h : rA x S g M a) : ((g.2 (M (x + 13) a)).1 : Int) - 66 = S 1 a := by have := h.2.2.1; omega
theorem rA_slot {x a : Int} {S : jx_M} {g : jx_S} {M : jx_M} (h : rA x S g M a) (hB : mB S) (a0 : 0 ≤ a) (a1 : a < S 0 9) : xs_slot g M (M (x + 13) a) = S 5 a := by
  have h3 := h.2.2.1
  have w := (hB.2.2.1 a a0 a1).2.2.2.2
  unfold xs_slot
  by_cases c : S 1 a = 4 ∨ S 1 a = 5
  · rw [if_pos (by omega)]
    exact h.2.2.2.2.2.2.2.2.2.2 c
  · rw [if_neg (by omega)]
    have := w.2
    omega
theorem rA_ref {x a : Int} {S : jx_M} {g : jx_S} {M : jx_M} (h : rA x S g M a) : xs_ref g (M (x + 13) a) = if 3 ≤ S 1 a ∧ S 1 a ≤ 5 then 1 else 0 := by
  have h3 := h.2.2.1
  unfold xs_ref
  by_cases c : 3 ≤ S 1 a ∧ S 1 a ≤ 5
  · rw [if_pos (by omega), if_pos c]
  · rw [if_neg (by omega), if_neg c]
def js_X0_linkRows : jx_Sp := fun as g M Po => match as with
  | [(60, _, x), (0, _, a)] => ∃ S, (0 ≤ x ∧ rBd x S g M ∧ mB S ∧ (0 ≤ a ∧ a < S 0 9) ∧ 0 ≤ S 5 a ∧ 0 ≤ M x 23 ∧ M x 23 + (xe_cr S a (S 0 9).toNat + xe_1 S a) ≤ 800) ∧ ∀ M', rEx x M M' (mm_EU (xe_rw S a (S 0 9)) (xe_sf S a)) (xe_cr S a (S 0 9).toNat + xe_1 S a) → Po (3, 0, 0) g M'
  | _ => False
def cs_X0_linkRows : jx_Cs := [(105, 1, 0, 0, ja_sort), (132, 1, 0, 0, ja_slot), (141, 5, 0, 0, js_X0_link)]
theorem hc_X0_linkRows {D : jx_D} {l : Launch} : jx_CsOK D l "LoopLane" 2 cs_X0_linkRows := List.forall_mem_cons.mpr ⟨jz_sort (by decide), List.forall_mem_cons.mpr ⟨jz_slot (by decide), List.forall_mem_cons.mpr ⟨jc_X0_47 (jt_X0_link l) (fun as g M Po (h : js_X0_link as g M Po) => by unfold js_X0_link at h; split at h <;> first | exact h.elim | exact ⟨_, _, _, rfl, rfl⟩) (by decide), fun _ h => absurd h List.not_mem_nil⟩⟩⟩
set_option maxHeartbeats 4000000 in
theorem jt_X0_linkRows (l : Launch) : jx_Ct l yX0_linkRows (ws_ yX0_linkRows cX0_linkRows 4 none) 2 0 0 js_X0_linkRows := by
  refine jx_Ct_c (rc := 3) (by decide) rfl (fun D as g M Po hS => ?_)
  unfold js_X0_linkRows at hS
  split at hS
  · rename_i n1 x n2 a
    obtain ⟨S, ⟨hx, hR, hB, ⟨a0, a1⟩, hs, e0, hroom⟩, hP⟩ := hS
    have h9 := hB.1
    refine ⟨Nat.le_of_ble_eq_true rfl, ?_⟩
    have h1 := xe_1_r (S := S) (a := a)
    have hA := hR.2.2.1 a a0 a1
    have w5 := hB.2.2.1
    -- the end: a store is linked with itself
    have fin : ∀ (b : Int) (M' : jx_M), rEx x M M' (xe_rw S a (S 0 9)) (xe_cr S a (S 0 9).toNat) → jx_V D l (yX0_linkRows.cls, cX0_linkRows, 4, 3, [], 2, 0, 0, yX0_linkRows.name) Po 91 [(60, n1, x), (0, n2, a), (0, 0, xe_1 S a), (0, 0, b)] [] (0, 0) g (M') := by
      intro b M' k1
      have hc := xe_cr_r (S := S) (a := a) (S 0 9).toNat
      have e1 := k1.1
      refine jx_runL (o := jo_X0) (cs := cs_X0_linkRows) (hf := jx_nh) jo_X0_ok hc_X0_linkRows (jx_HK_nil rfl) (fun _ => false) 20 ?_
      simp only [jw, ju, jx_tg, Int.cast_ofNat_Int, Int.reduceAdd, Int.reduceToNat, Nat.reduceAdd, Nat.reduceMul, Nat.reduceBEq, Nat.reduceLeDiff, Int.reduceLE, Int.reduceLT, Int.reduceEq, Int.reduceNeg, Int.reduceSub, Int.reduceMul, not_false_eq_true, true_and, and_true, and_self, Bool.or_false, Bool.false_or, Bool.or_true, Bool.true_or, List.length_nil, List.length_cons, Nat.zero_le, or_true, true_or, Nat.le_refl, ↓reduceIte, Nat.reduceEqDiff, forall_const, false_and, and_false, false_implies, implies_true, not_true_eq_false, or_false, false_or, ne_eq, jd_X0_linkRows, jf_X0, js_X0_link, ja_slot, ja_sort, js_X0_link, cs_X0_linkRows, jx_ck_c]
      refine ⟨⟨by omega, by omega⟩, fun c => ?_, fun c => ⟨⟨by omega, by omega⟩, ?_⟩⟩
      · refine hP _ (mEx_iff k1 (fun a' b' t d => ⟨.inl, fun z => z.elim id (fun w => ?_)⟩) (by omega))
        have := w.1
        unfold xe_1 at c
        rw [if_pos this] at c
        omega
      · have s5 : S 1 a = 5 := by
          unfold xe_1 at c
          split at c
          · assumption
          · omega
        have e15 : xe_1 S a = 1 := by unfold xe_1; rw [if_pos s5]
        refine hP _ (mEx_iff (mEx_tr k1 (rEx_ent (by omega))) (fun a' b' t d => ⟨fun z => z.elim .inl (fun w => .inr ⟨s5, w⟩), fun z => z.elim .inl (fun w => .inr w.2)⟩) (by omega))
    have loop : ∀ (f b : Nat) (M' : jx_M), (b : Int) + f = S 0 9 → a < b → rEx x M M' (xe_rw S a b) (xe_cr S a b) → jx_V D l (yX0_linkRows.cls, cX0_linkRows, 4, 3, [], 2, 0, 0, yX0_linkRows.name) Po 23 [(60, n1, x), (0, n2, a), (0, 0, xe_1 S a), (0, 0, (b : Int))] [] (0, 0) g (M') := by
      intro f
      induction f with
      | zero =>
        intro b M' hb ab k1
        have R' := rEx_B h9.2 k1 hR
        refine jx_runL (o := jo_X0) (cs := cs_X0_linkRows) (hf := jx_nh) jo_X0_ok hc_X0_linkRows (jx_HK_nil rfl) (fun p => p == 91) 20 ?_
        simp only [jw, ju, jx_tg, Int.cast_ofNat_Int, Int.reduceAdd, Int.reduceToNat, Nat.reduceAdd, Nat.reduceMul, Nat.reduceBEq, Nat.reduceLeDiff, Int.reduceLE, Int.reduceLT, Int.reduceEq, Int.reduceNeg, Int.reduceSub, Int.reduceMul, not_false_eq_true, true_and, and_true, and_self, Bool.or_false, Bool.false_or, Bool.or_true, Bool.true_or, List.length_nil, List.length_cons, Nat.zero_le, or_true, true_or, Nat.le_refl, ↓reduceIte, Nat.reduceEqDiff, forall_const, false_and, and_false, false_implies, implies_true, not_true_eq_false, or_false, false_or, ne_eq, jd_X0_linkRows, jf_X0, R'.1, ja_slot, ja_sort, js_X0_link, cs_X0_linkRows, jx_ck_c]
        refine ⟨⟨⟨by omega, by omega⟩, by omega, by omega⟩, fun c => fin _ _ ?_, fun c => by omega⟩
        rw [show (S 0 9).toNat = b by omega, show S 0 9 = (b : Int) by omega]
        exact k1
      | succ f ih =>
        intro b M' hb ab k1
        have R' := rEx_B h9.2 k1 hR
        have hAb := R'.2.2.1 b (by omega) (by omega)
        have hAa := R'.2.2.1 a a0 a1
        have up : xe_cr S a (b + 1) ≤ xe_cr S a (S 0 9).toNat := mm_sum_up _ (by omega) (fun _ _ _ => xe_w_r.1)
        have ec : xe_cr S a (b + 1) = xe_cr S a b + xe_w S a b := rfl
        have c0 := xe_cr_r (S := S) (a := a) b
        have e1 := k1.1
        have wb := w5 b (by omega) (by omega)
        have wa := w5 a a0 a1
        -- no edge
        have no : ¬ me_rw S a b → jx_V D l (yX0_linkRows.cls, cX0_linkRows, 4, 3, [], 2, 0, 0, yX0_linkRows.name) Po 85 [(60, n1, x), (0, n2, a), (0, 0, xe_1 S a), (0, 0, (b : Int))] [] (0, 0) g (M') := by
          intro hn
          have ew : xe_w S a b = 0 := by unfold xe_w; rw [if_neg hn]
          refine jx_runL (o := jo_X0) (cs := cs_X0_linkRows) (hf := jx_nh) jo_X0_ok hc_X0_linkRows (jx_HK_nil rfl) (fun p => p == 23) 20 ?_
          simp only [jw, ju, jx_tg, Int.cast_ofNat_Int, Int.reduceAdd, Int.reduceToNat, Nat.reduceAdd, Nat.reduceMul, Nat.reduceBEq, Nat.reduceLeDiff, Int.reduceLE, Int.reduceLT, Int.reduceEq, Int.reduceNeg, Int.reduceSub, Int.reduceMul, not_false_eq_true, true_and, and_true, and_self, Bool.or_false, Bool.false_or, Bool.or_true, Bool.true_or, List.length_nil, List.length_cons, Nat.zero_le, or_true, true_or, Nat.le_refl, ↓reduceIte, Nat.reduceEqDiff, forall_const, false_and, and_false, false_implies, implies_true, not_true_eq_false, or_false, false_or, ne_eq, jd_X0_linkRows, jf_X0, ja_slot, ja_sort, js_X0_link, cs_X0_linkRows, jx_ck_c]
          have := ih (b + 1) M' (by omega) (by omega) (mEx_iff k1 (fun a' b' t d => ⟨fun ⟨c, q1, q2, q3⟩ => ⟨c, q1, by omega, q3⟩, fun ⟨c, q1, q2, q3, q4⟩ => ⟨c, q1, by
            rcases (show c < (b : Int) ∨ c = b by omega) with z | z
            · exact z
            · rw [z] at q3; exact absurd q3 hn, q3, q4⟩⟩) (by omega))
          rw [show (((b + 1 : Nat) : Int)) = (b : Int) + 1 by omega] at this
          exact this
        have yes : me_rw S a b → jx_V D l (yX0_linkRows.cls, cX0_linkRows, 4, 3, [], 2, 0, 0, yX0_linkRows.name) Po 69 [(60, n1, x), (0, n2, a), (0, 0, xe_1 S a), (0, 0, (b : Int))] [] (0, 0) g (M') := by
          intro hy
          have ew : xe_w S a b = 2 := by unfold xe_w; rw [if_pos hy]
          refine jx_runL (o := jo_X0) (cs := cs_X0_linkRows) (hf := jx_nh) jo_X0_ok hc_X0_linkRows (jx_HK_nil rfl) (fun p => p == 23) 40 ?_
          simp only [jw, ju, jx_tg, Int.cast_ofNat_Int, Int.reduceAdd, Int.reduceToNat, Nat.reduceAdd, Nat.reduceMul, Nat.reduceBEq, Nat.reduceLeDiff, Int.reduceLE, Int.reduceLT, Int.reduceEq, Int.reduceNeg, Int.reduceSub, Int.reduceMul, not_false_eq_true, true_and, and_true, and_self, Bool.or_false, Bool.false_or, Bool.or_true, Bool.true_or, List.length_nil, List.length_cons, Nat.zero_le, or_true, true_or, Nat.le_refl, ↓reduceIte, Nat.reduceEqDiff, forall_const, false_and, and_false, false_implies, implies_true, not_true_eq_false, or_false, false_or, ne_eq, jd_X0_linkRows, jf_X0, js_X0_link, ja_slot, ja_sort, js_X0_link, cs_X0_linkRows, jx_ck_c]
          have k2 : rEx x M' (xu_link M' x a b 1 0) (mm_E1 a b 1 0) 1 := rEx_ent (by omega)
          have e2 := k2.1
          have k3 : rEx x (xu_link M' x a b 1 0) (xu_link (xu_link M' x a b 1 0) x b a 1 1) (mm_E1 b a 1 1) 1 := rEx_ent (by omega)
          refine ⟨⟨by omega, by omega⟩, ⟨by omega, by omega⟩, ?_⟩
          have := ih (b + 1) (xu_link (xu_link M' x a b 1 0) x b a 1 1) (by omega) (by omega) (mEx_iff (mEx_tr k1 (mEx_tr k2 k3)) (fun a' b' t d => ⟨fun z => ?_, fun z => ?_⟩) (by omega))
          · rw [show (((b + 1 : Nat) : Int)) = (b : Int) + 1 by omega] at this
            exact this
          · rcases z with ⟨c, q1, q2, q3⟩ | z | z
            · exact ⟨c, q1, by omega, q3⟩
            · exact ⟨b, ab, by omega, hy, .inl z⟩
            · exact ⟨b, ab, by omega, hy, .inr z⟩
          · obtain ⟨c, q1, q2, q3, q4⟩ := z
            rcases (show c < (b : Int) ∨ c = b by omega) with w | w
            · exact .inl ⟨c, q1, w, q3, q4⟩
            · rw [w] at q4
              exact .inr (q4.elim .inl .inr)
        have i1 : xe_1 S a ≠ 0 ↔ S 1 a = 5 := by unfold xe_1; split <;> omega
        have irw : me_rw S a b ↔ (S 5 b = S 5 a ∧ (xe_1 S a ≠ 0 ∨ S 1 b = 5)) := by unfold me_rw; omega
        refine jx_runL (o := jo_X0) (cs := cs_X0_linkRows) (hf := jx_nh) jo_X0_ok hc_X0_linkRows (jx_HK_nil rfl) (fun p => p == 69 || p == 85) 40 ?_
        simp only [jw, ju, jx_tg, Int.cast_ofNat_Int, Int.reduceAdd, Int.reduceToNat, Nat.reduceAdd, Nat.reduceMul, Nat.reduceBEq, Nat.reduceLeDiff, Int.reduceLE, Int.reduceLT, Int.reduceEq, Int.reduceNeg, Int.reduceSub, Int.reduceMul, not_false_eq_true, true_and, and_true, and_self, Bool.or_false, Bool.false_or, Bool.or_true, Bool.true_or, List.length_nil, List.length_cons, Nat.zero_le, or_true, true_or, Nat.le_refl, ↓reduceIte, Nat.reduceEqDiff, forall_const, false_and, and_false, false_implies, implies_true, not_true_eq_false, or_false, false_or, ne_eq, jd_X0_linkRows, jf_X0, R'.1, rA_slot hAb hB (by omega) (by omega), rA_slot hAa hB a0 a1, rA_sort hAb, ja_slot, ja_sort, js_X0_link, cs_X0_linkRows, jx_ck_c]
        have q1 := rA_k3 hAb hx (by omega)
        have q2 := rA_k hAb hx (by omega)
        have q3 := rA_k3 hAa hx a0
        have q4 := rA_k hAa hx a0
        refine ⟨by omega, fun c => by omega, fun c => ⟨by omega, q1, q2, by omega, q3, q4, by omega, fun c2 => no (fun w => c2 (irw.mp w).1), fun c2 => ⟨by omega, fun c3 => yes (irw.mpr (by omega)), fun c3 => ⟨by omega, q1, q2, by omega, fun c4 => no (fun w => by have := (irw.mp w).2; omega), fun c4 => yes (irw.mpr (by omega))⟩⟩⟩⟩
    refine jx_runL (o := jo_X0) (cs := cs_X0_linkRows) (hf := jx_nh) jo_X0_ok hc_X0_linkRows (jx_HK_nil rfl) (fun p => p == 23) 30 ?_
    simp only [jw, ju, jx_tg, Int.cast_ofNat_Int, Int.reduceAdd, Int.reduceToNat, Nat.reduceAdd, Nat.reduceMul, Nat.reduceBEq, Nat.reduceLeDiff, Int.reduceLE, Int.reduceLT, Int.reduceEq, Int.reduceNeg, Int.reduceSub, Int.reduceMul, not_false_eq_true, true_and, and_true, and_self, Bool.or_false, Bool.false_or, Bool.or_true, Bool.true_or, List.length_nil, List.length_cons, Nat.zero_le, or_true, true_or, Nat.le_refl, ↓reduceIte, Nat.reduceEqDiff, forall_const, false_and, and_false, false_implies, implies_true, not_true_eq_false, or_false, false_or, ne_eq, jd_X0_linkRows, jf_X0, rA_sort hA, ja_slot, ja_sort, js_X0_link, cs_X0_linkRows, jx_ck_c]
    have st := loop (S 0 9 - (a + 1)).toNat (a + 1).toNat M (by omega) (by omega) (mEx_iff mEx_rf (fun a' b' t d => ⟨fun z => z.elim, fun ⟨c, q1, q2, q3⟩ => by omega⟩) (mm_sum_z0 (fun v v0 v1 => by unfold xe_w; rw [if_neg (fun w => by have := w.1; omega)])).symm)
    rw [show (((a + 1).toNat : Nat) : Int) = a + 1 by omega] at st
    have q1 := rA_k3 hA hx a0
    have q2 := rA_k hA hx a0
    have w5a := w5 a a0 a1
    refine ⟨⟨by omega, by omega⟩, q1, q2, ⟨by omega, by omega⟩, fun c => ?_, fun c => ?_⟩
    · rw [show xe_1 S a = 0 by unfold xe_1; rw [if_neg c]] at st
      exact st
    · rw [show xe_1 S a = 1 by unfold xe_1; rw [if_pos (by omega)]] at st
      exact st
  · exact hS.elim
def js_X0_linkStore : jx_Sp := fun as g M Po => match as with
  | [(60, _, x), (0, _, b)] => ∃ S, (0 ≤ x ∧ rBd x S g M ∧ mB S ∧ (0 ≤ b ∧ b < S 0 9) ∧ S 1 b = 5 ∧ 0 ≤ M x 23 ∧ M x 23 + xe_cs S b (S 0 9).toNat ≤ 800) ∧ ∀ M', rEx x M M' (xe_st S b (S 0 9)) (xe_cs S b (S 0 9).toNat) → Po (3, 0, 0) g M'
  | _ => False
def cs_X0_linkStore : jx_Cs := [(153, 1, 0, 0, ja_isRefused), (141, 5, 0, 0, js_X0_link)]
theorem hc_X0_linkStore {D : jx_D} {l : Launch} : jx_CsOK D l "LoopLane" 2 cs_X0_linkStore := List.forall_mem_cons.mpr ⟨jz_isRefused (by decide), List.forall_mem_cons.mpr ⟨jc_X0_47 (jt_X0_link l) (fun as g M Po (h : js_X0_link as g M Po) => by unfold js_X0_link at h; split at h <;> first | exact h.elim | exact ⟨_, _, _, rfl, rfl⟩) (by decide), fun _ h => absurd h List.not_mem_nil⟩⟩
set_option maxHeartbeats 4000000 in
theorem jt_X0_linkStore (l : Launch) : jx_Ct l yX0_linkStore (ws_ yX0_linkStore cX0_linkStore 3 none) 2 0 0 js_X0_linkStore := by
  refine jx_Ct_c (rc := 3) (by decide) rfl (fun D as g M Po hS => ?_)
  unfold js_X0_linkStore at hS
  split at hS
  · rename_i n1 x n2 b
    obtain ⟨S, ⟨hx, hR, hB, ⟨b0, b1⟩, hs, e0, hroom⟩, hP⟩ := hS
    have h9 := hB.1
    refine ⟨Nat.le_of_ble_eq_true rfl, ?_⟩
    have loop : ∀ (f a : Nat) (M' : jx_M), (a : Int) + f = S 0 9 → rEx x M M' (xe_st S b a) (xe_cs S b a) → jx_V D l (yX0_linkStore.cls, cX0_linkStore, 3, 3, [], 2, 0, 0, yX0_linkStore.name) Po 2 [(60, n1, x), (0, n2, b), (0, 0, (a : Int))] [] (0, 0) g (M') := by
      intro f
      induction f with
      | zero =>
        intro a M' ha k1
        have R' := rEx_B h9.2 k1 hR
        refine jx_runL (o := jo_X0) (cs := cs_X0_linkStore) (hf := jx_nh) jo_X0_ok hc_X0_linkStore (jx_HK_nil rfl) (fun _ => false) 20 ?_
        simp only [jw, ju, jx_tg, Int.cast_ofNat_Int, Int.reduceAdd, Int.reduceToNat, Nat.reduceAdd, Nat.reduceMul, Nat.reduceBEq, Nat.reduceLeDiff, Int.reduceLE, Int.reduceLT, Int.reduceEq, Int.reduceNeg, Int.reduceSub, Int.reduceMul, not_false_eq_true, true_and, and_true, and_self, Bool.or_false, Bool.false_or, Bool.or_true, Bool.true_or, List.length_nil, List.length_cons, Nat.zero_le, or_true, true_or, Nat.le_refl, ↓reduceIte, Nat.reduceEqDiff, forall_const, false_and, and_false, false_implies, implies_true, not_true_eq_false, or_false, false_or, ne_eq, jd_X0_linkStore, jf_X0, R'.1, ja_isRefused, js_X0_link, cs_X0_linkStore, jx_ck_c]
        refine ⟨by omega, fun c => hP _ ?_, fun c => by omega⟩
        rw [show (S 0 9).toNat = a by omega, show S 0 9 = (a : Int) by omega]
        exact k1
      | succ f ih =>
        intro a M' ha k1
        have R' := rEx_B h9.2 k1 hR
        have hA := R'.2.2.1 a (by omega) (by omega)
        have up : xe_cs S b (a + 1) ≤ xe_cs S b (S 0 9).toNat := mm_sum_up _ (by omega) (fun _ _ _ => xe_v_r.1)
        have ec : xe_cs S b (a + 1) = xe_cs S b a + xe_v S a b := rfl
        have c0 := xe_cs_r (S := S) (a := b) a
        have e1 := k1.1
        have q1 := rA_k3 hA hx (by omega)
        have q2 := rA_k hA hx (by omega)
        have next : ∀ M'', rEx x M M'' (xe_st S b (a + 1 : Nat)) (xe_cs S b (a + 1)) → jx_V D l (yX0_linkStore.cls, cX0_linkStore, 3, 3, [], 2, 0, 0, yX0_linkStore.name) Po 48 [(60, n1, x), (0, n2, b), (0, 0, (a : Int))] [] (0, 0) g (M'') := by
          intro M'' k2
          refine jx_runL (o := jo_X0) (cs := cs_X0_linkStore) (hf := jx_nh) jo_X0_ok hc_X0_linkStore (jx_HK_nil rfl) (fun p => p == 2) 20 ?_
          simp only [jw, ju, jx_tg, Int.cast_ofNat_Int, Int.reduceAdd, Int.reduceToNat, Nat.reduceAdd, Nat.reduceMul, Nat.reduceBEq, Nat.reduceLeDiff, Int.reduceLE, Int.reduceLT, Int.reduceEq, Int.reduceNeg, Int.reduceSub, Int.reduceMul, not_false_eq_true, true_and, and_true, and_self, Bool.or_false, Bool.false_or, Bool.or_true, Bool.true_or, List.length_nil, List.length_cons, Nat.zero_le, or_true, true_or, Nat.le_refl, ↓reduceIte, Nat.reduceEqDiff, forall_const, false_and, and_false, false_implies, implies_true, not_true_eq_false, or_false, false_or, ne_eq, jd_X0_linkStore, jf_X0, ja_isRefused, js_X0_link, cs_X0_linkStore, jx_ck_c]
          have := ih (a + 1) M'' (by omega) k2
          rw [show (((a + 1 : Nat) : Int)) = (a : Int) + 1 by omega] at this
          exact this
        have no : ¬ me_bh S a b → jx_V D l (yX0_linkStore.cls, cX0_linkStore, 3, 3, [], 2, 0, 0, yX0_linkStore.name) Po 48 [(60, n1, x), (0, n2, b), (0, 0, (a : Int))] [] (0, 0) g (M') := fun hn => next M' (mEx_iff k1 (fun a' b' t d => ⟨fun ⟨c, q1, q2, q3⟩ => ⟨c, q1, by omega, q3⟩, fun ⟨c, q1, q2, q3, q4⟩ => ⟨c, q1, by
            rcases (show c < (a : Int) ∨ c = a by omega) with z | z
            · exact z
            · rw [z] at q3; exact absurd q3 hn, q3, q4⟩⟩) (by rw [ec, show xe_v S a b = 0 by unfold xe_v; rw [if_neg hn]]; omega))
        have yes : me_bh S a b → jx_V D l (yX0_linkStore.cls, cX0_linkStore, 3, 3, [], 2, 0, 0, yX0_linkStore.name) Po 27 [(60, n1, x), (0, n2, b), (0, 0, (a : Int))] [] (0, 0) g (M') := by
          intro hy
          have vr := xe_v_r (S := S) (a := a) (b := b)
          have k2 : ∀ M2, rEx x M2 (xu_link M2 x a b 1 1) (mm_E1 a b 1 1) 1 ∨ ¬ 0 ≤ M2 x 23 := fun M2 => by
            by_cases c : 0 ≤ M2 x 23
            · exact .inl (rEx_ent c)
            · exact .inr c
          by_cases lt : (a : Int) < b
          · have ev : xe_v S a b = 2 := by unfold xe_v; rw [if_pos hy, if_pos lt]
            have k3 : rEx x M' (xu_link M' x a b 1 0) (mm_E1 a b 1 0) 1 := rEx_ent (by omega)
            have e3 := k3.1
            have k4 : rEx x (xu_link M' x a b 1 0) (xu_link (xu_link M' x a b 1 0) x a b 1 1) (mm_E1 a b 1 1) 1 := rEx_ent (by omega)
            refine jx_runL (o := jo_X0) (cs := cs_X0_linkStore) (hf := jx_nh) jo_X0_ok hc_X0_linkStore (jx_HK_nil rfl) (fun p => p == 48) 40 ?_
            simp only [jw, ju, jx_tg, Int.cast_ofNat_Int, Int.reduceAdd, Int.reduceToNat, Nat.reduceAdd, Nat.reduceMul, Nat.reduceBEq, Nat.reduceLeDiff, Int.reduceLE, Int.reduceLT, Int.reduceEq, Int.reduceNeg, Int.reduceSub, Int.reduceMul, not_false_eq_true, true_and, and_true, and_self, Bool.or_false, Bool.false_or, Bool.or_true, Bool.true_or, List.length_nil, List.length_cons, Nat.zero_le, or_true, true_or, Nat.le_refl, ↓reduceIte, Nat.reduceEqDiff, forall_const, false_and, and_false, false_implies, implies_true, not_true_eq_false, or_false, false_or, ne_eq, jd_X0_linkStore, jf_X0, ja_isRefused, js_X0_link, cs_X0_linkStore, jx_ck_c]
            refine ⟨by omega, fun c => by omega, fun c => ⟨by omega, by omega, next _ (mEx_iff (mEx_tr k1 (mEx_tr k3 k4)) (fun a' b' t d => ⟨fun z => ?_, fun z => ?_⟩) (by omega))⟩⟩
            · rcases z with ⟨c, q1, q2, q3⟩ | z | z
              · exact ⟨c, q1, by omega, q3⟩
              · exact ⟨a, by omega, by omega, hy, .inl ⟨lt, z⟩⟩
              · exact ⟨a, by omega, by omega, hy, .inr z⟩
            · obtain ⟨c, q1, q2, q3, q4⟩ := z
              rcases (show c < (a : Int) ∨ c = a by omega) with w | w
              · exact .inl ⟨c, q1, w, q3, q4⟩
              · rw [w] at q4
                exact .inr (q4.elim (fun z => .inl z.2) .inr)
          · have ev : xe_v S a b = 1 := by unfold xe_v; rw [if_pos hy, if_neg lt]
            have k4 : rEx x M' (xu_link M' x a b 1 1) (mm_E1 a b 1 1) 1 := rEx_ent (by omega)
            refine jx_runL (o := jo_X0) (cs := cs_X0_linkStore) (hf := jx_nh) jo_X0_ok hc_X0_linkStore (jx_HK_nil rfl) (fun p => p == 48) 40 ?_
            simp only [jw, ju, jx_tg, Int.cast_ofNat_Int, Int.reduceAdd, Int.reduceToNat, Nat.reduceAdd, Nat.reduceMul, Nat.reduceBEq, Nat.reduceLeDiff, Int.reduceLE, Int.reduceLT, Int.reduceEq, Int.reduceNeg, Int.reduceSub, Int.reduceMul, not_false_eq_true, true_and, and_true, and_self, Bool.or_false, Bool.false_or, Bool.or_true, Bool.true_or, List.length_nil, List.length_cons, Nat.zero_le, or_true, true_or, Nat.le_refl, ↓reduceIte, Nat.reduceEqDiff, forall_const, false_and, and_false, false_implies, implies_true, not_true_eq_false, or_false, false_or, ne_eq, jd_X0_linkStore, jf_X0, ja_isRefused, js_X0_link, cs_X0_linkStore, jx_ck_c]
            refine ⟨by omega, fun c => ⟨by omega, next _ (mEx_iff (mEx_tr k1 k4) (fun a' b' t d => ⟨fun z => ?_, fun z => ?_⟩) (by omega))⟩, fun c => by omega⟩
            · rcases z with ⟨c, q1, q2, q3⟩ | z
              · exact ⟨c, q1, by omega, q3⟩
              · exact ⟨a, by omega, by omega, hy, .inr z⟩
            · obtain ⟨c, q1, q2, q3, q4⟩ := z
              rcases (show c < (a : Int) ∨ c = a by omega) with w | w
              · exact .inl ⟨c, q1, w, q3, q4⟩
              · rw [w] at q4
                exact .inr (q4.elim (fun z => absurd z.1 lt) id)
        have er := rA_ref hA
        refine jx_runL (o := jo_X0) (cs := cs_X0_linkStore) (hf := jx_nh) jo_X0_ok hc_X0_linkStore (jx_HK_nil rfl) (fun p => p == 27 || p == 48) 40 ?_
        simp only [jw, ju, jx_tg, Int.cast_ofNat_Int, Int.reduceAdd, Int.reduceToNat, Nat.reduceAdd, Nat.reduceMul, Nat.reduceBEq, Nat.reduceLeDiff, Int.reduceLE, Int.reduceLT, Int.reduceEq, Int.reduceNeg, Int.reduceSub, Int.reduceMul, not_false_eq_true, true_and, and_true, and_self, Bool.or_false, Bool.false_or, Bool.or_true, Bool.true_or, List.length_nil, List.length_cons, Nat.zero_le, or_true, true_or, Nat.le_refl, ↓reduceIte, Nat.reduceEqDiff, forall_const, false_and, and_false, false_implies, implies_true, not_true_eq_false, or_false, false_or, ne_eq, jd_X0_linkStore, jf_X0, R'.1, ja_isRefused, js_X0_link, cs_X0_linkStore, jx_ck_c]
        have ir : xs_ref g (M' (x + 13) a) ≠ 0 ↔ 3 ≤ S 1 a ∧ S 1 a ≤ 5 := by rw [er]; split <;> omega
        have rr : 0 ≤ xs_ref g (M' (x + 13) a) ∧ xs_ref g (M' (x + 13) a) ≤ 1 := by rw [er]; split <;> omega
        have ibh : me_bh S a b ↔ (¬ (a : Int) = b ∧ xs_ref g (M' (x + 13) a) ≠ 0) := by unfold me_bh; omega
        refine ⟨by omega, fun c => by omega, fun c => ⟨by omega, fun c2 => no (fun w => (ibh.mp w).1 c2), fun c2 => ⟨by omega, q1, q2, by omega, fun c3 => no (fun w => (ibh.mp w).2 c3), fun c3 => yes (ibh.mpr ⟨by omega, by omega⟩)⟩⟩⟩
    refine jx_runL (o := jo_X0) (cs := cs_X0_linkStore) (hf := jx_nh) jo_X0_ok hc_X0_linkStore (jx_HK_nil rfl) (fun p => p == 2) 20 ?_
    simp only [jw, ju, jx_tg, Int.cast_ofNat_Int, Int.reduceAdd, Int.reduceToNat, Nat.reduceAdd, Nat.reduceMul, Nat.reduceBEq, Nat.reduceLeDiff, Int.reduceLE, Int.reduceLT, Int.reduceEq, Int.reduceNeg, Int.reduceSub, Int.reduceMul, not_false_eq_true, true_and, and_true, and_self, Bool.or_false, Bool.false_or, Bool.or_true, Bool.true_or, List.length_nil, List.length_cons, Nat.zero_le, or_true, true_or, Nat.le_refl, ↓reduceIte, Nat.reduceEqDiff, forall_const, false_and, and_false, false_implies, implies_true, not_true_eq_false, or_false, false_or, ne_eq, jd_X0_linkStore, jf_X0, ja_isRefused, js_X0_link, cs_X0_linkStore, jx_ck_c]
    exact loop (S 0 9).toNat 0 M (by omega) (mEx_iff mEx_rf (fun a' b' t d => ⟨fun z => z.elim, fun ⟨c, q1, q2, q3⟩ => by omega⟩) rfl)
  · exact hS.elim
