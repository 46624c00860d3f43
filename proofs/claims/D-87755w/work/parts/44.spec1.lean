/-! WHAT THE FACE DOES, 1: the abstract state is the reference's memory, S j k = place k of the array at y + j (j = 0: its own fields) -/
set_option maxRecDepth 100000
def mY (M : jx_M) (y : Int) : jx_M := fun j k => M (y + j) k
theorem mY_0 (M : jx_M) (y k : Int) : mY M y 0 k = M y k := by unfold mY; rw [Int.add_zero]
theorem mY_j (M : jx_M) (y j k : Int) : mY M y j k = M (y + j) k := rfl
theorem mY_u (M : jx_M) (y a i v : Int) : mY (jx_u M (y + a) i v) y = jx_u (mY M y) a i v := by
  funext j k
  unfold mY jx_u
  by_cases h : j = a ∧ k = i
  · rw [if_pos h, if_pos ⟨by omega, h.2⟩]
  · rw [if_neg h, if_neg (fun z => h ⟨by omega, z.2⟩)]
theorem mY_u0 (M : jx_M) (y i v : Int) : mY (jx_u M y i v) y = jx_u (mY M y) 0 i v := by
  have := mY_u M y 0 i v
  rw [Int.add_zero] at this
  exact this
/-- the same but for what is written anew at every use -/
def mQ (S S' : jx_M) : Prop := ∀ j k : Int, 0 ≤ j → j < 33 → ¬ (15 ≤ j ∧ j ≤ 18) → j ≠ 20 → ¬ (28 ≤ j ∧ j ≤ 30) → ¬ (j = 0 ∧ k = 20) → S' j k = S j k
theorem mQ_rf {S : jx_M} : mQ S S := fun _ _ _ _ _ _ _ _ => rfl
theorem mQ_eq {S S' : jx_M} (h : S' = S) : mQ S S' := by rw [h]; exact mQ_rf
theorem mQ_tr {S S' S'' : jx_M} (h : mQ S S') (h' : mQ S' S'') : mQ S S'' := fun j k a b c d e f => (h' j k a b c d e f).trans (h j k a b c d e f)
theorem mQ_sy {S S' : jx_M} (h : mQ S S') : mQ S' S := fun j k a b c d e f => (h j k a b c d e f).symm
theorem mQ_u {S S' : jx_M} (h : mQ S S') (a i v : Int) : mQ (jx_u S a i v) (jx_u S' a i v) := fun j k x b c d e f => by
  unfold jx_u
  split
  · rfl
  · exact h j k x b c d e f
/-- only the reference's own cells change -/
def mFr (y : Int) (M M' : jx_M) : Prop := ∀ z i : Int, (z < y ∨ y + 33 ≤ z) → M' z i = M z i
theorem mFr_rf {y : Int} {M : jx_M} : mFr y M M := fun _ _ _ => rfl
theorem mFr_u {y : Int} {M M' : jx_M} {a i v : Int} (h : mFr y M M') (ha : 0 ≤ a ∧ a < 33) : mFr y M (jx_u M' (y + a) i v) := fun z k q => by
  rw [jx_u_a _ _ _ _ _ _ (by omega)]
  exact h z k q
theorem mFr_u0 {y : Int} {M M' : jx_M} {i v : Int} (h : mFr y M M') : mFr y M (jx_u M' y i v) := fun z k q => by
  rw [jx_u_a _ _ _ _ _ _ (by omega)]
  exact h z k q
theorem mFr_tr {y : Int} {M M' M'' : jx_M} (h : mFr y M M') (h' : mFr y M' M'') : mFr y M M'' := fun z i q => (h' z i q).trans (h z i q)
/-- what a call of the reference is to give: an answer and a new state -/
def mK (y : Int) (g : jx_S) (M : jx_M) (Po : jx_Po) (t : Nat) : Int → jx_M → Prop := fun r S' => ∀ M', mQ S' (mY M' y) → mFr y M M' → Po (t, 0, r) g M'
/-- an edge is told -/
def mu_edge (M : jx_M) (y a b t d : Int) : jx_M := mu_changes (jx_u (jx_u (jx_u (jx_u (jx_u M (y + 11) (M y 15) a) (y + 12) (M y 15) b) (y + 13) (M y 15) t) (y + 14) (M y 15) d) y 15 (M y 15 + 1)) y
theorem mY_no {M : jx_M} {y w : Int} : mY (mu_no M y w) y = mu_no (mY M y) 0 w := by
  unfold mu_no
  simp only [mY_u, mY_u0, mY_j, Int.zero_add]
theorem mY_forget {M : jx_M} {y : Int} : mY (mu_forget M y) y = mu_forget (mY M y) 0 := by
  unfold mu_forget
  simp only [mY_u0]
theorem mY_changes {M : jx_M} {y : Int} : mY (mu_changes M y) y = mu_changes (mY M y) 0 := by
  unfold mu_changes
  simp only [mY_forget, mY_u0]
theorem mY_op {M : jx_M} {y i x d : Int} : mY (mu_op M y i x d) y = mu_op (mY M y) 0 i x d := by
  unfold mu_op
  simp only [mY_u, Int.zero_add]
theorem mY_adds {M : jx_M} {y a w s x dx z dz : Int} : mY (mu_adds M y a w s x dx z dz) y = mu_adds (mY M y) 0 a w s x dx z dz := by
  unfold mu_adds
  simp only [mY_changes, mY_op, mY_u, mY_u0, Int.zero_add]
theorem mY_edge {M : jx_M} {y a b t d : Int} : mY (mu_edge M y a b t d) y = mu_edge (mY M y) 0 a b t d := by
  unfold mu_edge
  simp only [mY_changes, mY_u, mY_u0, mY_0, Int.zero_add]
theorem mFr_no {M M' : jx_M} {y w : Int} (h : mFr y M M') : mFr y M (mu_no M' y w) := mFr_u0 (mFr_u h (by omega))
theorem mFr_forget {M M' : jx_M} {y : Int} (h : mFr y M M') : mFr y M (mu_forget M' y) := mFr_u0 (mFr_u0 (mFr_u0 (mFr_u0 (mFr_u0 (mFr_u0 (mFr_u0 h))))))
theorem mFr_changes {M M' : jx_M} {y : Int} (h : mFr y M M') : mFr y M (mu_changes M' y) := mFr_forget (mFr_u0 h)
theorem mFr_op {M M' : jx_M} {y i x d : Int} (h : mFr y M M') : mFr y M (mu_op M' y i x d) := mFr_u (mFr_u h (by omega)) (by omega)
theorem mFr_adds {M M' : jx_M} {y a w s x dx z dz : Int} (h : mFr y M M') : mFr y M (mu_adds M' y a w s x dx z dz) :=
  mFr_changes (mFr_op (mFr_op (mFr_op (mFr_u (mFr_u (mFr_u (mFr_u (mFr_u (mFr_u (mFr_u (mFr_u0 h) (by omega)) (by omega)) (by omega)) (by omega)) (by omega)) (by omega)) (by omega)))))
theorem mFr_edge {M M' : jx_M} {y a b t d : Int} (h : mFr y M M') : mFr y M (mu_edge M' y a b t d) :=
  mFr_changes (mFr_u0 (mFr_u (mFr_u (mFr_u (mFr_u h (by omega)) (by omega)) (by omega)) (by omega)))
/-! answers and new states -/
abbrev mR : Type := Int × jx_M
def mno (w : Int) (S : jx_M) : mR := (w, mu_no S 0 w)
theorem mm_ite {p : Prop} [Decidable p] {K : Int → jx_M → Prop} {a b : mR} : K (if p then a else b).1 (if p then a else b).2 ↔ (p → K a.1 a.2) ∧ (¬ p → K b.1 b.2) := by
  by_cases h : p
  · rw [if_pos h]; exact ⟨fun q => ⟨fun _ => q, fun z => absurd h z⟩, fun q => q.1 h⟩
  · rw [if_neg h]; exact ⟨fun q => ⟨fun z => absurd z h, fun _ => q⟩, fun q => q.2 h⟩
def mm_isa (S : jx_M) (a : Int) : Prop := 0 ≤ a ∧ a < S 0 9
def f_put (v : Int) (S : jx_M) : mR := if S 0 9 = 16 then mno (-10) S else (S 0 9, jx_u (mu_adds S 0 (S 0 9) 0 (-1) (-1) (-1) (-1) (-1)) 9 (S 0 9) v)
noncomputable def f_reckon (w x dx z dz : Int) (S : jx_M) : mR :=
  @ite _ ((1 ≤ w ∧ w ≤ 3) ∧ (0 ≤ dx ∧ dx ≤ 4) ∧ (0 ≤ dz ∧ dz ≤ 4)) (Classical.propDecidable _)
    (@ite _ (mm_okop (S 0 9) x dx ∧ mm_okop (S 0 9) z dz) (Classical.propDecidable _) (if S 0 9 = 16 then mno (-10) S else (S 0 9, mu_adds S 0 (S 0 9) w (-1) x dx z dz)) (mno (-3) S)) (mno (-9) S)
noncomputable def f_fetch (s x dx : Int) (S : jx_M) : mR :=
  @ite _ (0 ≤ dx ∧ dx ≤ 4) (Classical.propDecidable _) (@ite _ ((0 ≤ s ∧ s ≤ 7) ∧ mm_okop (S 0 9) x dx) (Classical.propDecidable _) (if S 0 9 = 16 then mno (-10) S else (S 0 9, mu_adds S 0 (S 0 9) 4 s x dx (-1) (-1))) (mno (-3) S)) (mno (-9) S)
noncomputable def f_store (s x dx z dz : Int) (S : jx_M) : mR :=
  @ite _ ((0 ≤ dx ∧ dx ≤ 4) ∧ (0 ≤ dz ∧ dz ≤ 4)) (Classical.propDecidable _)
    (@ite _ ((0 ≤ s ∧ s ≤ 7) ∧ mm_okop (S 0 9) x dx ∧ mm_okop (S 0 9) z dz) (Classical.propDecidable _) (if S 0 9 = 16 then mno (-10) S else (S 0 9, mu_adds S 0 (S 0 9) 5 s x dx z dz)) (mno (-3) S)) (mno (-9) S)
noncomputable def f_pick (x w z dz : Int) (S : jx_M) : mR :=
  @ite _ (0 ≤ dz ∧ dz ≤ 4) (Classical.propDecidable _)
    (@ite _ (mm_okop (S 0 9) x 0 ∧ mm_okop (S 0 9) w 0 ∧ mm_okop (S 0 9) z dz) (Classical.propDecidable _) (if S 0 9 = 16 then mno (-10) S else (S 0 9, mu_op (mu_adds S 0 (S 0 9) 6 (-1) x 0 w 0) 0 (3 * S 0 9 + 2) z dz)) (mno (-3) S)) (mno (-9) S)
noncomputable def f_works (a lg un pt : Int) (S : jx_M) : mR :=
  @ite _ (mm_isa S a ∧ (0 ≤ un ∧ un ≤ 5)) (Classical.propDecidable _) (@ite _ ((1 ≤ lg ∧ lg ≤ 12) ∧ (1 ≤ pt ∧ pt ≤ 255)) (Classical.propDecidable _) (1, mu_changes (jx_u (jx_u (jx_u S 2 a lg) 3 a un) 4 a pt) 0) (mno (-9) S)) (mno (-3) S)
noncomputable def f_first (a v : Int) (S : jx_M) : mR := @ite _ (mm_isa S a) (Classical.propDecidable _) (1, jx_u S 8 a v) (mno (-3) S)
noncomputable def f_unit (k n : Int) (S : jx_M) : mR :=
  @ite _ (0 ≤ k ∧ k ≤ 5) (Classical.propDecidable _) (if n < 0 then mno (-4) S else if 4 < n then mno (-9) S else (S 10 k, mu_changes (jx_u S 10 k n) 0)) (mno (-3) S)
noncomputable def f_edge (a b t d : Int) (S : jx_M) : mR :=
  @ite _ (mm_isa S a ∧ mm_isa S b) (Classical.propDecidable _) (@ite _ ((-50 ≤ t ∧ t ≤ 50) ∧ (0 ≤ d ∧ d ≤ 4)) (Classical.propDecidable _) (if S 0 15 = 40 then mno (-10) S else (S 0 15 + 1, mu_edge S 0 a b t d)) (mno (-9) S)) (mno (-3) S)
noncomputable def f_act (a w : Int) (S : jx_M) : mR :=
  @ite _ (mm_isa S a) (Classical.propDecidable _) (@ite _ (0 ≤ w ∧ w ≤ 10) (Classical.propDecidable _)
    (if w ≤ 4 then (S (w + 1) a, S) else if w % 2 = 1 then (S 6 (3 * a + (w - 5) / 2), S) else (S 7 (3 * a + (w - 5) / 2), S)) (mno (-9) S)) (mno (-3) S)
noncomputable def f_number (a : Int) (S : jx_M) : mR := @ite _ (mm_isa S a) (Classical.propDecidable _) (if S 1 a = 0 then (S 9 a, S) else (0, mu_no S 0 (-5))) (0, mu_no S 0 (-3))
def mm_whole (S : jx_M) : Prop := ∀ k, 0 ≤ k → k < 3 * S 0 9 → S 6 k < S 0 9
noncomputable def f_whole (S : jx_M) : mR := @ite _ (mm_whole S) (Classical.propDecidable _) (1, S) (0, S)
def f_trials (S : jx_M) : mR := (S 0 32, S)
noncomputable def f_forge (a t : Int) (S : jx_M) : mR :=
  if S 0 27 = 0 then mno (-2) S else @ite _ (mm_isa S a) (Classical.propDecidable _) (if t < 0 then mno (-4) S else if 3000 < t then mno (-9) S else (S 27 a, jx_u S 27 a t)) (mno (-3) S)
noncomputable def f_wrong (w : Int) (S : jx_M) : mR := @ite _ (0 ≤ w ∧ w ≤ 5) (Classical.propDecidable _) (S 31 w, S) (mno (-9) S)
noncomputable def f_told (w : Int) (S : jx_M) : mR := @ite _ (0 ≤ w ∧ w ≤ 5) (Classical.propDecidable _) (S 0 (38 + w), S) (mno (-9) S)
noncomputable def f_end (a : Int) (S : jx_M) : mR := @ite _ (mm_isa S a) (Classical.propDecidable _) (if S 0 44 = 0 then (S 8 a, S) else (S 32 (16 * (S 0 44 - 1) + a), S)) (0, mu_no S 0 (-3))
def f_again (S : jx_M) : mR := if S 0 26 = 0 then (-7, S) else (S 0 26, jx_u S 0 26 0)
noncomputable def f_status (b : Int) (S : jx_M) : mR := @ite _ (-11 ≤ b ∧ b ≤ -2) (Classical.propDecidable _) (S 23 (-b), S) (mno (-9) S)
noncomputable def f_empty (s : Int) (S : jx_M) : mR := @ite _ (0 ≤ s ∧ s < 8) (Classical.propDecidable _) (if 0 < S 21 s then (1, jx_u S 21 s 0) else (0, jx_u S 21 s 0)) (mno (-3) S)
/-- why there is no such long: 0 where there is -/
noncomputable def mm_why (S : jx_M) (s i : Int) : Int := if S 21 s = 0 then -2 else if S 22 s = 0 then -5 else @ite _ (0 ≤ i ∧ i < S 21 s) (Classical.propDecidable _) 0 (-3)
noncomputable def mm_why2 (S : jx_M) (s i : Int) : Int := @ite _ (0 ≤ s ∧ s < 8) (Classical.propDecidable _) (mm_why S s i) (-3)
noncomputable def f_set (s i v : Int) (S : jx_M) : mR := if mm_why2 S s i = 0 then (1, jx_u S 19 (40 * s + i) v) else mno (mm_why2 S s i) S
noncomputable def f_get (s i : Int) (S : jx_M) : mR := if mm_why2 S s i = 0 then (S 19 (40 * s + i), S) else (0, mu_no S 0 (mm_why2 S s i))
/-- a stretch of zeros -/
def mm_zero (S : jx_M) (p : Int) : Nat → jx_M
  | 0 => S
  | n + 1 => jx_u (mm_zero S p n) 19 (p + n) 0
noncomputable def f_row (s n w : Int) (S : jx_M) : mR :=
  @ite _ (0 ≤ s ∧ s < 8) (Classical.propDecidable _) (if n < 0 then mno (-4) S else @ite _ (1 ≤ n ∧ n ≤ 40) (Classical.propDecidable _) (1, mm_zero (jx_u (jx_u S 21 s n) 22 s w) (40 * s) n.toNat) (mno (-9) S)) (mno (-3) S)
/-- a stretch of longs -/
def mm_copy (S R : jx_M) (p q : Int) : Nat → jx_M
  | 0 => S
  | n + 1 => jx_u (mm_copy S R p q n) 19 (q + n) (R 19 (p + n))
noncomputable def f_copy (s i t j n : Int) (S : jx_M) : mR :=
  @ite _ ((0 ≤ s ∧ s < 8) ∧ (0 ≤ t ∧ t < 8)) (Classical.propDecidable _) (@ite _ (S 21 s = 0 ∨ S 21 t = 0) (Classical.propDecidable _) (mno (-2) S)
    (@ite _ (S 22 s = 0 ∨ S 22 t = 0) (Classical.propDecidable _) (mno (-5) S) (if n < 0 then mno (-4) S else
      @ite _ (i < 0 ∨ j < 0 ∨ S 21 s < i + n ∨ S 21 t < j + n) (Classical.propDecidable _) (mno (-6) S) (n, mm_copy S S (40 * s + i) (40 * t + j) n.toNat)))) (mno (-3) S)
