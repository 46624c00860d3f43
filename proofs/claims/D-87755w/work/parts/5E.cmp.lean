/-! RUNS: a laid run comes to the same as a plain one -/
set_option maxRecDepth 100000
/-- the plain run, place by place, going on where an act is refused -/
noncomputable def rp (S : jx_M) : Nat → jx_M
  | 0 => S
  | k + 1 => @ite _ ((k : Int) % 16 < S 0 9) (Classical.propDecidable _) (mm_does (rp S k) ((k : Int) % 16) ((k : Int) / 16)).2 (rp S k)
def rp_no (S : jx_M) (k : Nat) : Prop := (k : Int) % 16 < S 0 9 ∧ mm_dwhy (rp S k) ((k : Int) % 16) ((k : Int) / 16) ≠ 0
theorem rp_pos {S : jx_M} {k : Nat} (h : (k : Int) % 16 < S 0 9) : rp S (k + 1) = (mm_does (rp S k) ((k : Int) % 16) ((k : Int) / 16)).2 := if_pos h
theorem rp_neg {S : jx_M} {k : Nat} (h : ¬ (k : Int) % 16 < S 0 9) : rp S (k + 1) = rp S k := if_neg h
theorem rp_same {S : jx_M} : ∀ k, mm_same S (rp S k)
  | 0 => mm_same_rf
  | k + 1 => by
    by_cases h : (k : Int) % 16 < S 0 9
    · rw [rp_pos h]; exact mm_same_does (rp_same k)
    · rw [rp_neg h]; exact rp_same k
/-- the first that is refused -/
theorem rp_first {S : jx_M} : ∀ n : Nat, ∃ L : Nat, L ≤ n ∧ (∀ k, k < L → ¬ rp_no S k) ∧ (L < n → rp_no S L)
  | 0 => ⟨0, Nat.le_refl _, fun k h => by omega, fun h => by omega⟩
  | n + 1 => by
    obtain ⟨L, h1, h2, h3⟩ := rp_first (S := S) n
    by_cases c : L < n
    · exact ⟨L, by omega, h2, fun _ => h3 c⟩
    · have e : L = n := by omega
      subst e
      by_cases d : rp_no S L
      · exact ⟨L, by omega, h2, fun _ => d⟩
      · refine ⟨L + 1, Nat.le_refl _, fun k hk => ?_, fun h => by omega⟩
        by_cases e : k = L
        · rw [e]; exact d
        · exact h2 k (by omega)
theorem mm_does_32 {S : jx_M} {a t i : Int} (h : i ≠ 16 * t + a) : (mm_does S a t).2 32 i = S 32 i := by
  unfold mm_does
  split
  · show mm_dput S a t 32 i = S 32 i
    unfold mm_dput
    rw [jx_u_j _ _ _ _ _ _ h]
    split
    · rw [jx_u_a _ _ _ _ _ _ (by decide)]
    · rfl
  · rfl
theorem rp_32 {S : jx_M} {i : Nat} : ∀ k : Nat, i < k → rp S k 32 i = rp S (i + 1) 32 i
  | 0, h => by omega
  | k + 1, h => by
    by_cases e : i = k
    · rw [e]
    · rw [← rp_32 k (by omega)]
      by_cases c : (k : Int) % 16 < S 0 9
      · rw [rp_pos c]; exact mm_does_32 (by omega)
      · rw [rp_neg c]
/-- who stores at a place -/
def rp_st (S : jx_M) (s : Int) (j : Nat) : Prop := (j : Int) % 16 < S 0 9 ∧ S 1 ((j : Int) % 16) = 5 ∧ S 5 ((j : Int) % 16) = s
theorem mm_does_19 {S : jx_M} {a t p : Int} (h : ¬ (S 1 a = 5 ∧ p = 40 * S 5 a + mm_x S a t ∧ mm_dwhy S a t = 0)) : (mm_does S a t).2 19 p = S 19 p := by
  unfold mm_does
  split
  · rename_i c
    show mm_dput S a t 19 p = S 19 p
    unfold mm_dput
    rw [jx_u_a _ _ _ _ _ _ (by decide)]
    split
    · rename_i d
      rw [jx_u_j _ _ _ _ _ _ (fun e => h ⟨d, e, c⟩)]
    · rfl
  · rfl
theorem mm_dwhy_x {S : jx_M} {a t : Int} (h5 : S 1 a = 4 ∨ S 1 a = 5) (h : mm_dwhy S a t = 0) : S 21 (S 5 a) ≠ 0 ∧ S 22 (S 5 a) ≠ 0 ∧ 0 ≤ mm_x S a t ∧ mm_x S a t < S 21 (S 5 a) := by
  unfold mm_dwhy at h
  rw [if_neg (by omega), if_pos h5] at h
  unfold mm_why at h
  split at h
  · omega
  · split at h
    · omega
    · split at h
      · rename_i c1 c2 c3
        exact ⟨c1, c2, c3⟩
      · omega
theorem rp_19 {S : jx_M} {s p : Int} {k0 : Nat} (hr : mm_rows S) (h5 : ∀ a, 0 ≤ a → a < S 0 9 → S 1 a = 5 → 0 ≤ S 5 a ∧ S 5 a < 8) (hp : 40 * s ≤ p ∧ p < 40 * s + 40) : ∀ k : Nat, k0 ≤ k → (∀ j, k0 ≤ j → j < k → ¬ rp_st S s j) → rp S k 19 p = rp S k0 19 p
  | 0, h, _ => by rw [show k0 = 0 by omega]
  | k + 1, h, hj => by
    by_cases e : k0 = k + 1
    · rw [e]
    · rw [← rp_19 (k0 := k0) hr h5 hp k (by omega) (fun j a b => hj j a (by omega))]
      by_cases c : (k : Int) % 16 < S 0 9
      · rw [rp_pos c]
        have sm := rp_same (S := S) k
        refine mm_does_19 (fun ⟨z1, z2, z3⟩ => ?_)
        have hx := mm_dwhy_x (.inr z1) z3
        rw [sm.1 1 _ (by decide) (by decide) (by decide)] at z1
        rw [sm.1 5 _ (by decide) (by decide) (by decide)] at z2 hx
        rw [sm.1 21 _ (by decide) (by decide) (by decide)] at hx
        have b5 := h5 _ (by omega) c z1
        have hr5 := hr _ b5.1 b5.2
        exact hj k (by omega) (by omega) ⟨c, z1, by omega⟩
      · rw [rp_neg c]
/-- values are the same where what is read is -/
theorem mm_val_eq {S Q P : jx_M} {a k t : Int} (hQ : mm_same S Q) (hP : mm_same S P) (h : 0 ≤ t - S 7 (3 * a + k) → Q 32 (16 * (t - S 7 (3 * a + k)) + S 6 (3 * a + k)) = P 32 (16 * (t - S 7 (3 * a + k)) + S 6 (3 * a + k))) : mm_val Q a k t = mm_val P a k t := by
  unfold mm_val
  simp only [hQ.1 7 _ (by decide) (by decide) (by decide), hQ.1 6 _ (by decide) (by decide) (by decide), hQ.1 8 _ (by decide) (by decide) (by decide), hP.1 7 _ (by decide) (by decide) (by decide), hP.1 6 _ (by decide) (by decide) (by decide), hP.1 8 _ (by decide) (by decide) (by decide)]
  split
  · rfl
  · exact h (by omega)
theorem mm_x_eq {S Q P : jx_M} {a t : Int} (hQ : mm_same S Q) (hP : mm_same S P) (hA : mm_act S a) (h : ∀ k, 0 ≤ k → k < 3 → mm_ok1 S a k → mm_val Q a k t = mm_val P a k t) : mm_x Q a t = mm_x P a t := by
  unfold mm_x
  rw [hQ.1 1 _ (by decide) (by decide) (by decide), hQ.1 9 _ (by decide) (by decide) (by decide), hP.1 1 _ (by decide) (by decide) (by decide), hP.1 9 _ (by decide) (by decide) (by decide)]
  split
  · rfl
  · rename_i c
    exact h 0 (by decide) (by decide) (hA.2.2.1 c)
theorem mm_y_eq {S Q P : jx_M} {a t : Int} (hQ : mm_same S Q) (hP : mm_same S P) (hA : mm_act S a) (h : ∀ k, 0 ≤ k → k < 3 → mm_ok1 S a k → mm_val Q a k t = mm_val P a k t) : mm_y Q a t = mm_y P a t := by
  unfold mm_y
  rw [hQ.1 6 _ (by decide) (by decide) (by decide), hP.1 6 _ (by decide) (by decide) (by decide)]
  split
  · rfl
  · rename_i c
    exact h 1 (by decide) (by decide) (hA.2.2.2.1 (by omega))
theorem mm_dwhy_eq {S Q P : jx_M} {a t : Int} (hQ : mm_same S Q) (hP : mm_same S P) (hA : mm_act S a) (h : ∀ k, 0 ≤ k → k < 3 → mm_ok1 S a k → mm_val Q a k t = mm_val P a k t) : mm_dwhy Q a t = mm_dwhy P a t := by
  have hx := mm_x_eq hQ hP hA h
  have hy := mm_y_eq hQ hP hA h
  unfold mm_dwhy mm_why
  rw [hx, hy]
  simp only [hQ.1 1 _ (by decide) (by decide) (by decide), hQ.1 5 _ (by decide) (by decide) (by decide), hQ.1 21 _ (by decide) (by decide) (by decide), hQ.1 22 _ (by decide) (by decide) (by decide), hP.1 1 _ (by decide) (by decide) (by decide), hP.1 5 _ (by decide) (by decide) (by decide), hP.1 21 _ (by decide) (by decide) (by decide), hP.1 22 _ (by decide) (by decide) (by decide)]
theorem mm_dend_eq {S Q P : jx_M} {a t : Int} (hQ : mm_same S Q) (hP : mm_same S P) (hA : mm_act S a) (h : ∀ k, 0 ≤ k → k < 3 → mm_ok1 S a k → mm_val Q a k t = mm_val P a k t) (hr : S 1 a = 4 ∨ S 1 a = 5 → Q 19 (40 * S 5 a + mm_x P a t) = P 19 (40 * S 5 a + mm_x P a t)) : mm_dend Q a t = mm_dend P a t := by
  have hx := mm_x_eq hQ hP hA h
  have hy := mm_y_eq hQ hP hA h
  unfold mm_dend
  rw [hx, hy]
  simp only [hQ.1 1 _ (by decide) (by decide) (by decide), hQ.1 5 _ (by decide) (by decide) (by decide), hP.1 1 _ (by decide) (by decide) (by decide), hP.1 5 _ (by decide) (by decide) (by decide)]
  have a1 := hA.1
  by_cases c0 : S 1 a = 0
  · rw [if_pos c0, if_pos c0]
  · rw [if_neg c0, if_neg c0]
    by_cases c1 : S 1 a = 1
    · rw [if_pos c1, if_pos c1]
    · rw [if_neg c1, if_neg c1]
      by_cases c2 : S 1 a = 2
      · rw [if_pos c2, if_pos c2]
      · rw [if_neg c2, if_neg c2]
        by_cases c3 : S 1 a = 3
        · rw [if_pos c3, if_pos c3]
        · rw [if_neg c3, if_neg c3]
          by_cases c6 : S 1 a = 6
          · rw [if_pos c6, if_pos c6, h 2 (by decide) (by decide) (hA.2.2.2.2.1 c6)]
          · rw [if_neg c6, if_neg c6]
            exact hr (by omega)
/-! the order of ticks -/
def rp_tk (S : jx_M) (j : Nat) : Int := S 26 ((j : Int) % 16) + S 0 27 * ((j : Int) / 16)
def rp_ex (S : jx_M) (now a : Int) (j : Nat) : Prop := rp_tk S j < now ∨ (rp_tk S j = now ∧ (j : Int) % 16 < a)
def rp_H (S : jx_M) : Prop := 1 ≤ S 0 27 ∧ (0 ≤ S 0 9 ∧ S 0 9 ≤ 16) ∧ mm_rows S ∧ (∀ a, 0 ≤ a → a < S 0 9 → mm_act S a ∧ 0 ≤ S 26 a) ∧
  (∀ a k, 0 ≤ a → a < S 0 9 → 0 ≤ k → k < 3 → mm_ok1 S a k → S 6 (3 * a + k) < S 0 9 ∧ S 26 (S 6 (3 * a + k)) + 1 ≤ S 26 a + S 0 27 * S 7 (3 * a + k) ∧ (S 7 (3 * a + k) = 0 → S 6 (3 * a + k) < a)) ∧
  (∀ a b, 0 ≤ a → a < b → b < S 0 9 → (S 1 a = 4 ∨ S 1 a = 5) → (S 1 b = 4 ∨ S 1 b = 5) → S 5 a = S 5 b → (S 1 a = 5 ∨ S 1 b = 5) → S 26 a + 1 ≤ S 26 b ∧ S 26 b + 1 ≤ S 26 a + S 0 27) ∧
  ∀ a b, 0 ≤ a → a < S 0 9 → 0 ≤ b → b < S 0 9 → S 1 b = 5 → (3 ≤ S 1 a ∧ S 1 a ≤ 5) → a ≠ b → (a < b → S 26 a + 1 ≤ S 26 b) ∧ S 26 a + 1 ≤ S 26 b + S 0 27
theorem mul_step {B t t' : Int} (hB : 1 ≤ B) (h : t + 1 ≤ t') : B * t + B ≤ B * t' := by
  have := Int.mul_le_mul_of_nonneg_left h (show 0 ≤ B by omega)
  rw [Int.mul_add, Int.mul_one] at this
  exact this
theorem rp_tk_act {S : jx_M} {j : Nat} {a t : Int} (ha : 0 ≤ a ∧ a < 16) (ht : (j : Int) = 16 * t + a) : rp_tk S j = S 26 a + S 0 27 * t := by
  unfold rp_tk
  rw [show (j : Int) % 16 = a by omega, show (j : Int) / 16 = t by omega]
/-- acts of one slot, one of them a store, keep their order -/
theorem rp_tk_rows {S : jx_M} (H : rp_H S) {i j : Nat} (hij : i < j) (hi : (i : Int) % 16 < S 0 9) (hj : (j : Int) % 16 < S 0 9) (ri : S 1 ((i : Int) % 16) = 4 ∨ S 1 ((i : Int) % 16) = 5) (rj : S 1 ((j : Int) % 16) = 4 ∨ S 1 ((j : Int) % 16) = 5) (e : S 5 ((i : Int) % 16) = S 5 ((j : Int) % 16)) (o : S 1 ((i : Int) % 16) = 5 ∨ S 1 ((j : Int) % 16) = 5) : rp_tk S i < rp_tk S j := by
  obtain ⟨hB, h9, -, -, -, hR, -⟩ := H
  unfold rp_tk
  generalize ha : (i : Int) % 16 = a at *
  generalize hb : (j : Int) % 16 = b at *
  generalize ht : (i : Int) / 16 = t
  generalize ht' : (j : Int) / 16 = t'
  by_cases c : t = t'
  · have := hR a b (by omega) (by omega) hj ri rj e o
    rw [c]
    omega
  · have := mul_step hB (show t + 1 ≤ t' by omega)
    rcases (show a < b ∨ a = b ∨ b < a by omega) with z | z | z
    · have := hR a b (by omega) z hj ri rj e o
      omega
    · rw [z]; omega
    · have := hR b a (by omega) z hi rj ri e.symm (by omega)
      omega
/-- a store waits for all that might be refused ahead of it -/
theorem rp_tk_bh {S : jx_M} (H : rp_H S) {i j : Nat} (hij : i < j) (hi : (i : Int) % 16 < S 0 9) (hj : (j : Int) % 16 < S 0 9) (ri : 3 ≤ S 1 ((i : Int) % 16) ∧ S 1 ((i : Int) % 16) ≤ 5) (rj : S 1 ((j : Int) % 16) = 5) : rp_tk S i < rp_tk S j := by
  obtain ⟨hB, h9, -, -, -, -, hR⟩ := H
  unfold rp_tk
  generalize ha : (i : Int) % 16 = a at *
  generalize hb : (j : Int) % 16 = b at *
  generalize ht : (i : Int) / 16 = t
  generalize ht' : (j : Int) / 16 = t'
  by_cases c : t = t'
  · have := (hR a b (by omega) hi (by omega) hj rj ri (by omega)).1 (by omega)
    rw [c]
    omega
  · have := mul_step hB (show t + 1 ≤ t' by omega)
    by_cases z : a = b
    · rw [z]; omega
    · have := (hR a b (by omega) hi (by omega) hj rj ri z).2
      omega
/-- what an act takes came ahead of it -/
theorem rp_tk_op {S : jx_M} (H : rp_H S) {j : Nat} {k : Int} (hj : (j : Int) % 16 < S 0 9) (hk : 0 ≤ k ∧ k < 3) (ok : mm_ok1 S ((j : Int) % 16) k) (hf : 0 ≤ (j : Int) / 16 - S 7 (3 * ((j : Int) % 16) + k)) :
    ∃ i : Nat, (i : Int) = 16 * ((j : Int) / 16 - S 7 (3 * ((j : Int) % 16) + k)) + S 6 (3 * ((j : Int) % 16) + k) ∧ i < j ∧ (i : Int) % 16 < S 0 9 ∧ rp_tk S i < rp_tk S j := by
  obtain ⟨hB, h9, -, -, hO, -⟩ := H
  have o := hO _ k (by omega) hj hk.1 hk.2 ok
  have ok1 := ok.1
  have ok2 := ok.2
  unfold rp_tk
  generalize ha : (j : Int) % 16 = a at *
  generalize ht : (j : Int) / 16 = t at *
  generalize hd : S 7 (3 * a + k) = d at *
  generalize hc : S 6 (3 * a + k) = c at *
  refine ⟨(16 * (t - d) + c).toNat, by omega, ?_, by omega, ?_⟩
  · rcases (show d = 0 ∨ 1 ≤ d by omega) with z | z
    · have := o.2.2 z
      omega
    · omega
  · rw [show (((16 * (t - d) + c).toNat : Nat) : Int) = 16 * (t - d) + c by omega, show (16 * (t - d) + c) % 16 = c by omega, show (16 * (t - d) + c) / 16 = t - d by omega]
    have := o.2.1
    rw [Int.mul_sub]
    omega
/-! the laid run -/
def rp_I (S : jx_M) (n : Int) (L : Nat) (now a lim : Int) (Q : jx_M) : Prop := mm_same S Q ∧ ((L : Int) ≤ lim ∧ lim ≤ 16 * n) ∧
  (∀ j : Nat, j < L → (j : Int) % 16 < S 0 9 → rp_ex S now a j → Q 32 j = rp S (j + 1) 32 j) ∧
  (∀ (κ : Nat) (s p : Int), κ ≤ L → 0 ≤ s → s < 8 → 40 * s ≤ p → p < 40 * s + 40 → (∀ j : Nat, j < L → rp_st S s j → (j < κ ↔ rp_ex S now a j)) → Q 19 p = rp S κ 19 p) ∧
  ((L : Int) < 16 * n → (lim = L → Q 0 38 = mm_dwhy (rp S L) ((L : Int) % 16) ((L : Int) / 16) ∧ Q 0 39 = (L : Int) % 16 ∧ Q 0 40 = (L : Int) / 16) ∧ ((L : Int) < lim → ¬ rp_ex S now a L)) ∧
  ((L : Int) = 16 * n → Q 0 38 = S 0 38 ∧ Q 0 39 = S 0 39 ∧ Q 0 40 = S 0 40)
/-- one step of an act whose moment it is -/
theorem rp_mono {S : jx_M} {now a : Int} {j : Nat} (h : rp_ex S now a j) : rp_ex S now (a + 1) j := by
  rcases h with h | h
  · exact .inl h
  · exact .inr ⟨h.1, by omega⟩
theorem rp_new {S : jx_M} {now a : Int} {j : Nat} (h : rp_ex S now (a + 1) j) : rp_ex S now a j ∨ (rp_tk S j = now ∧ (j : Int) % 16 = a) := by
  rcases h with h | h
  · exact .inl (.inl h)
  · by_cases c : (j : Int) % 16 < a
    · exact .inl (.inr ⟨h.1, c⟩)
    · exact .inr ⟨h.1, by omega⟩
/-- which place has its moment -/
theorem rp_at {S : jx_M} (H : rp_H S) {now a : Int} {j : Nat} (ha : 0 ≤ a ∧ a < S 0 9) (h : rp_tk S j = now ∧ (j : Int) % 16 = a) : 0 ≤ now - S 26 a ∧ (now - S 26 a) % S 0 27 = 0 ∧ (j : Int) = 16 * ml_t S now a + a := by
  have hB := H.1
  have h9 := H.2.1
  obtain ⟨h1, h2⟩ := h
  have e : (j : Int) = 16 * ((j : Int) / 16) + a := by omega
  rw [rp_tk_act (by omega) e] at h1
  have e2 : now - S 26 a = S 0 27 * ((j : Int) / 16) := by omega
  have e3 : 0 ≤ S 0 27 * ((j : Int) / 16) := Int.mul_nonneg (by omega) (by omega)
  refine ⟨by omega, ?_, ?_⟩
  · rw [e2]; exact Int.mul_emod_right _ _
  · unfold ml_t
    rw [e2, Int.mul_ediv_cancel_left _ (by omega)]
    exact e
theorem rp_to {S : jx_M} (H : rp_H S) {now a : Int} (ha : 0 ≤ a ∧ a < S 0 9) (h1 : 0 ≤ now - S 26 a) (h2 : (now - S 26 a) % S 0 27 = 0) : 0 ≤ ml_t S now a ∧ rp_tk S (16 * ml_t S now a + a).toNat = now ∧ (((16 * ml_t S now a + a).toNat : Nat) : Int) = 16 * ml_t S now a + a := by
  have hB := H.1
  have h9 := H.2.1
  have h0 : 0 ≤ ml_t S now a := Int.ediv_nonneg h1 (by omega)
  have e : (((16 * ml_t S now a + a).toNat : Nat) : Int) = 16 * ml_t S now a + a := by omega
  refine ⟨h0, ?_, e⟩
  rw [rp_tk_act (by omega) e]
  have := Int.mul_ediv_add_emod (now - S 26 a) (S 0 27)
  unfold ml_t
  omega
theorem rp_skip {S : jx_M} {n : Int} {L : Nat} {now a lim : Int} {Q : jx_M} (H : rp_H S) (ha : 0 ≤ a ∧ a < S 0 9) (hI : rp_I S n L now a lim Q) (hs : ml_sk Q now a lim) : rp_I S n L now (a + 1) lim Q := by
  obtain ⟨i1, i2, i3, i4, i5, i6⟩ := hI
  have e26 : Q 26 a = S 26 a := i1.1 26 a (by decide) (by decide) (by decide)
  have e27 : Q 0 27 = S 0 27 := i1.2 27 (by decide)
  have hs' : now - S 26 a < 0 ∨ (now - S 26 a) % S 0 27 ≠ 0 ∨ lim ≤ 16 * ml_t S now a + a := by
    unfold ml_sk ml_t at hs
    rw [e26, e27] at hs
    exact hs
  have key : ∀ j : Nat, (j : Int) < lim → rp_ex S now (a + 1) j → rp_ex S now a j := fun j hj he => by
    rcases rp_new he with z | z
    · exact z
    · have := rp_at H ha z
      omega
  refine ⟨i1, i2, fun j h1 h2 h3 => i3 j h1 h2 (key j (by omega) h3), fun κ s p k1 k2 k3 k4 k5 k6 => i4 κ s p k1 k2 k3 k4 k5 (fun j q1 q2 => ⟨fun z => key j (by omega) ((k6 j q1 q2).mp z), fun z => (k6 j q1 q2).mpr (rp_mono z)⟩), fun q => ⟨(i5 q).1, fun w z => (i5 q).2 w (key L w z)⟩, i6⟩
theorem rp_v {S : jx_M} {n : Int} {L : Nat} {now a lim : Int} {Q : jx_M} (H : rp_H S) (ha : 0 ≤ a ∧ a < S 0 9) (hI : rp_I S n L now a lim Q) (h1 : 0 ≤ now - S 26 a) (h2 : (now - S 26 a) % S 0 27 = 0) {j : Nat} (hj : (j : Int) = 16 * ml_t S now a + a) (hjL : j ≤ L) : ∀ k, 0 ≤ k → k < 3 → mm_ok1 S a k → mm_val (ml_S1 Q now) a k (ml_t S now a) = mm_val (rp S j) a k (ml_t S now a) := by
  intro k k0 k1 ok
  obtain ⟨i1, i2, i3, i4, i5, i6⟩ := hI
  have h9 := H.2.1
  have ea : (j : Int) % 16 = a := by omega
  have et : (j : Int) / 16 = ml_t S now a := by omega
  refine mm_val_eq (mm_same_S1 i1) (rp_same j) (fun hf => ?_)
  have ok' := ok
  rw [← ea] at ok'
  obtain ⟨i, q1, q2, q3, q4⟩ := rp_tk_op H (j := j) (k := k) (by omega) ⟨k0, k1⟩ ok' (by rw [ea, et]; exact hf)
  rw [ea, et] at q1
  have tj := rp_to H ha h1 h2
  rw [show (16 * ml_t S now a + a).toNat = j by omega] at tj
  rw [← q1]
  unfold ml_S1
  rw [jx_u_a _ _ _ _ _ _ (by decide), jx_u_a _ _ _ _ _ _ (by decide), i3 i (by omega) q3 (.inl (by omega)), rp_32 j q2]
theorem rp_run0 {S : jx_M} {n : Int} {L : Nat} {now a lim : Int} {Q : jx_M} (H : rp_H S) (hL1 : ∀ k, k < L → ¬ rp_no S k) (hL2 : (L : Int) < 16 * n → rp_no S L) (ha : 0 ≤ a ∧ a < S 0 9) (hI : rp_I S n L now a lim Q) (h1 : 0 ≤ now - S 26 a) (h2 : (now - S 26 a) % S 0 27 = 0) (h3 : 16 * ml_t S now a + a < lim) (hd : (mm_does (ml_S1 Q now) a (ml_t S now a)).1 = 0) : rp_I S n L now (a + 1) lim (mm_does (ml_S1 Q now) a (ml_t S now a)).2 := by
  have hv := fun {j : Nat} hj hjL => rp_v H ha hI h1 h2 (j := j) hj hjL
  obtain ⟨i1, i2, i3, i4, i5, i6⟩ := hI
  have h9 := H.2.1
  have to := rp_to H ha h1 h2
  obtain ⟨j, hj⟩ : ∃ j, j = (16 * ml_t S now a + a).toNat := ⟨_, rfl⟩
  rw [← hj] at to
  obtain ⟨t0, tj, ej⟩ := to
  have ht0 : ml_t S now a = ml_t S now a := rfl
  generalize ht : ml_t S now a = t at hj t0 ej hv h3 hd ht0 ⊢
  have ea : (j : Int) % 16 = a := by omega
  have et : (j : Int) / 16 = t := by omega
  have hA := (H.2.2.2.1 a ha.1 ha.2).1
  have s1 : mm_same S (ml_S1 Q now) := mm_same_S1 i1
  have e19 : ∀ p, ml_S1 Q now 19 p = Q 19 p := fun p => by unfold ml_S1; rw [jx_u_a _ _ _ _ _ _ (by decide), jx_u_a _ _ _ _ _ _ (by decide)]
  have e32 : ∀ p, ml_S1 Q now 32 p = Q 32 p := fun p => by unfold ml_S1; rw [jx_u_a _ _ _ _ _ _ (by decide), jx_u_a _ _ _ _ _ _ (by decide)]
  have e0 : ∀ k, 38 ≤ k → k ≤ 40 → ml_S1 Q now 0 k = Q 0 k := fun k a b => by unfold ml_S1; rw [jx_u_j _ _ _ _ _ _ (by omega), jx_u_j _ _ _ _ _ _ (by omega)]
  have hy : mm_dwhy (ml_S1 Q now) a t = 0 := by
    by_cases c : mm_dwhy (ml_S1 Q now) a t = 0
    · exact c
    · rw [mm_does_n c] at hd; exact hd
  -- a place whose moment it is
  have only : ∀ i : Nat, rp_ex S now (a + 1) i → rp_ex S now a i ∨ i = j := fun i hi => by
    rcases rp_new hi with z | z
    · exact .inl z
    · have := rp_at H ha z
      rw [ht] at this
      exact .inr (by omega)
  have nowj : rp_ex S now (a + 1) j := .inr ⟨tj, by omega⟩
  have notj : ¬ rp_ex S now a j := fun z => by
    rcases z with z | z
    · omega
    · omega
  have o32 : ∀ i : Nat, i ≠ j → (mm_does (ml_S1 Q now) a t).2 32 i = Q 32 i := fun i hi => by rw [mm_does_32 (by omega), e32]
  refine ⟨mm_same_does s1, i2, fun i q1 q2 q3 => ?_, fun κ s p k1 k2 k3 k4 k5 k6 => ?_, fun q => ⟨fun w => ?_, fun w z => ?_⟩, fun q => ?_⟩
  · by_cases c : i = j
    · rw [c] at q1 ⊢
      have nj : ¬ rp_no S j := hL1 j q1
      have dj : mm_dwhy (rp S j) a t = 0 := by
        apply Classical.byContradiction
        intro z
        exact nj ⟨by omega, by rw [ea, et]; exact z⟩
      rw [mm_does_0 hy, rp_pos (by omega), ea, et, mm_does_0 dj]
      show mm_dput _ _ _ _ _ = mm_dput _ _ _ _ _
      unfold mm_dput
      rw [ej, jx_u_eq, jx_u_eq]
      refine mm_dend_eq s1 (rp_same j) hA (hv ej (by omega)) (fun hr => ?_)
      have b5 := hA.2.1 hr
      have hx := mm_dwhy_x (by rw [(rp_same j).1 1 _ (by decide) (by decide) (by decide)]; exact hr) dj
      rw [(rp_same j).1 5 _ (by decide) (by decide) (by decide), (rp_same j).1 21 _ (by decide) (by decide) (by decide)] at hx
      have r5 := H.2.2.1 _ b5.1 b5.2
      rw [e19]
      refine i4 j (S 5 a) _ (by omega) b5.1 b5.2 (by omega) (by omega) (fun i r1 r2 => ⟨fun z => ?_, fun z => ?_⟩)
      · refine .inl ?_
        rw [← tj]
        exact rp_tk_rows H z r2.1 (by omega) (.inr r2.2.1) (by rw [ea]; exact hr) (by rw [ea]; exact r2.2.2) (.inl r2.2.1)
      · apply Classical.byContradiction
        intro w
        have : i ≠ j := fun e => notj (e ▸ z)
        have := rp_tk_rows H (show j < i by omega) (by omega) r2.1 (by rw [ea]; exact hr) (.inr r2.2.1) (by rw [ea]; exact r2.2.2.symm) (.inr r2.2.1)
        rcases z with z | z <;> omega
    · rw [o32 i c]
      exact i3 i q1 q2 ((only i q3).resolve_right c)
  · by_cases st : S 1 a = 5 ∧ S 5 a = s ∧ j < L
    · obtain ⟨s1', s2, s3⟩ := st
      have nj : ¬ rp_no S j := hL1 j s3
      have dj : mm_dwhy (rp S j) a t = 0 := by
        apply Classical.byContradiction
        intro z
        exact nj ⟨by omega, by rw [ea, et]; exact z⟩
      have stj : rp_st S s j := ⟨by omega, by rw [ea]; exact s1', by rw [ea]; exact s2⟩
      have jκ : j < κ := (k6 j s3 stj).mpr nowj
      -- no store between
      have c1 : rp S κ 19 p = rp S (j + 1) 19 p := rp_19 H.2.2.1 (fun b b0 b1 b5 => (H.2.2.2.1 b b0 b1).1.2.1 (.inr b5)) ⟨k4, k5⟩ κ (by omega) (fun i z1 z2 z3 => by
        have z4 := (k6 i (by omega) z3).mp z2
        have := rp_tk_rows H (show j < i by omega) (by omega) z3.1 (by rw [ea]; exact .inr s1') (.inr z3.2.1) (by rw [ea]; exact s2.trans z3.2.2.symm) (.inr z3.2.1)
        rcases only i z4 with z | z
        · rcases z with z | z <;> omega
        · omega)
      have c2 : Q 19 p = rp S j 19 p := by
        refine i4 j s p (by omega) k2 k3 k4 k5 (fun i r1 r2 => ⟨fun z => ?_, fun z => ?_⟩)
        · refine .inl ?_
          rw [← tj]
          exact rp_tk_rows H z r2.1 (by omega) (.inr r2.2.1) (by rw [ea]; exact .inr s1') (by rw [ea]; exact r2.2.2.trans s2.symm) (.inl r2.2.1)
        · apply Classical.byContradiction
          intro w
          have : i ≠ j := fun e => notj (e ▸ z)
          have := rp_tk_rows H (show j < i by omega) (by omega) r2.1 (by rw [ea]; exact .inr s1') (.inr r2.2.1) (by rw [ea]; exact s2.trans r2.2.2.symm) (.inr r2.2.1)
          rcases z with z | z <;> omega
      rw [c1, rp_pos (by omega), ea, et, mm_does_0 hy, mm_does_0 dj]
      dsimp only
      unfold mm_dput
      rw [jx_u_a _ _ _ _ _ _ (by decide), jx_u_a _ _ _ _ _ _ (by decide), if_pos (by rw [s1.1 1 _ (by decide) (by decide) (by decide)]; exact s1'), if_pos (by rw [(rp_same j).1 1 _ (by decide) (by decide) (by decide)]; exact s1'), mm_x_eq s1 (rp_same j) hA (hv ej (by omega)), mm_y_eq s1 (rp_same j) hA (hv ej (by omega)), s1.1 5 _ (by decide) (by decide) (by decide), (rp_same j).1 5 _ (by decide) (by decide) (by decide)]
      unfold jx_u
      split
      · rfl
      · exact (e19 p).trans c2
    · -- another slot, or no store of ours
      have same : (mm_does (ml_S1 Q now) a t).2 19 p = Q 19 p := by
        rw [← e19 p]
        refine mm_does_19 (fun ⟨z1, z2, z3⟩ => ?_)
        have hx := mm_dwhy_x (.inr z1) z3
        rw [s1.1 1 _ (by decide) (by decide) (by decide)] at z1
        rw [s1.1 5 _ (by decide) (by decide) (by decide)] at z2 hx
        rw [s1.1 21 _ (by decide) (by decide) (by decide)] at hx
        have b5 := hA.2.1 (.inr z1)
        have r5 := H.2.2.1 _ b5.1 b5.2
        by_cases jL : j < L
        · exact st ⟨z1, by omega, jL⟩
        · -- a store behind what is refused
          by_cases LL : (L : Int) < 16 * n
          · have rn := hL2 LL
            rcases (show j = L ∨ L < j by omega) with w | w
            · have d1 := mm_dwhy_eq s1 (rp_same L) hA (hv (j := L) (by omega) (Nat.le_refl _))
              have := rn.2
              rw [show (L : Int) % 16 = a by omega, show (L : Int) / 16 = t by omega, ← d1] at this
              exact this hy
            · have ref : 3 ≤ S 1 ((L : Int) % 16) ∧ S 1 ((L : Int) % 16) ≤ 5 := by
                have r2 := rn.2
                unfold mm_dwhy at r2
                rw [(rp_same L).1 1 _ (by decide) (by decide) (by decide)] at r2
                split at r2
                · omega
                · split at r2
                  · omega
                  · exact absurd rfl r2
              have := rp_tk_bh H w rn.1 (by omega) ref (by rw [ea]; exact z1)
              exact (i5 LL).2 (by omega) (.inl (by omega))
          · omega
      rw [same]
      refine i4 κ s p k1 k2 k3 k4 k5 (fun i r1 r2 => (k6 i r1 r2).trans ⟨fun z => ?_, rp_mono⟩)
      rcases only i z with w | w
      · exact w
      · rw [w] at r2 r1
        refine absurd ⟨?_, ?_, r1⟩ st
        · have := r2.2.1; rw [ea] at this; exact this
        · have := r2.2.2; rw [ea] at this; exact this
  · have := (i5 q).1 w
    rw [mm_does_0k, mm_does_0k, mm_does_0k, e0 38 (by decide) (by decide), e0 39 (by decide) (by decide), e0 40 (by decide) (by decide)]
    exact this
  · rcases only L z with y | y
    · exact (i5 q).2 w y
    · have rn := hL2 q
      have d1 := mm_dwhy_eq s1 (rp_same L) hA (hv (j := L) (by omega) (Nat.le_refl _))
      have := rn.2
      rw [show (L : Int) % 16 = a by omega, show (L : Int) / 16 = t by omega, ← d1] at this
      exact this hy
  · have := i6 q
    rw [mm_does_0k, mm_does_0k, mm_does_0k, e0 38 (by decide) (by decide), e0 39 (by decide) (by decide), e0 40 (by decide) (by decide)]
    exact this
theorem rp_run1 {S : jx_M} {n : Int} {L : Nat} {now a lim : Int} {Q : jx_M} (H : rp_H S) (hL1 : ∀ k, k < L → ¬ rp_no S k) (ha : 0 ≤ a ∧ a < S 0 9) (hI : rp_I S n L now a lim Q) (h1 : 0 ≤ now - S 26 a) (h2 : (now - S 26 a) % S 0 27 = 0) (h3 : 16 * ml_t S now a + a < lim) (hd : (mm_does (ml_S1 Q now) a (ml_t S now a)).1 ≠ 0) : rp_I S n L now (a + 1) (16 * ml_t S now a + a) (jx_u (jx_u (jx_u (mm_does (ml_S1 Q now) a (ml_t S now a)).2 0 38 (mm_does (ml_S1 Q now) a (ml_t S now a)).1) 0 39 a) 0 40 (ml_t S now a)) := by
  have hv := fun {j : Nat} hj hjL => rp_v H ha hI h1 h2 (j := j) hj hjL
  obtain ⟨i1, i2, i3, i4, i5, i6⟩ := hI
  have h9 := H.2.1
  have to := rp_to H ha h1 h2
  obtain ⟨j, hj⟩ : ∃ j, j = (16 * ml_t S now a + a).toNat := ⟨_, rfl⟩
  rw [← hj] at to
  obtain ⟨t0, tj, ej⟩ := to
  have ht0 : ml_t S now a = ml_t S now a := rfl
  generalize ht : ml_t S now a = t at hj t0 ej hv h3 hd ht0 ⊢
  have ea : (j : Int) % 16 = a := by omega
  have et : (j : Int) / 16 = t := by omega
  have hA := (H.2.2.2.1 a ha.1 ha.2).1
  have s1 : mm_same S (ml_S1 Q now) := mm_same_S1 i1
  have e19 : ∀ p, ml_S1 Q now 19 p = Q 19 p := fun p => by unfold ml_S1; rw [jx_u_a _ _ _ _ _ _ (by decide), jx_u_a _ _ _ _ _ _ (by decide)]
  have e32 : ∀ p, ml_S1 Q now 32 p = Q 32 p := fun p => by unfold ml_S1; rw [jx_u_a _ _ _ _ _ _ (by decide), jx_u_a _ _ _ _ _ _ (by decide)]
  have hy : mm_dwhy (ml_S1 Q now) a t ≠ 0 := fun c => by
    rw [mm_does_0 c] at hd; exact hd rfl
  rw [mm_does_n hy]
  dsimp only
  have jL : L ≤ j := by
    apply Classical.byContradiction
    intro c
    have d1 := mm_dwhy_eq s1 (rp_same j) hA (hv (j := j) ej (by omega))
    exact hL1 j (by omega) ⟨by omega, by rw [ea, et, ← d1]; exact hy⟩
  have only : ∀ i : Nat, rp_ex S now (a + 1) i → rp_ex S now a i ∨ i = j := fun i hi => by
    rcases rp_new hi with z | z
    · exact .inl z
    · have := rp_at H ha z
      rw [ht] at this
      exact .inr (by omega)
  have m0 : ∀ z k, z ≠ 0 → jx_u (jx_u (jx_u (ml_S1 Q now) 0 38 (mm_dwhy (ml_S1 Q now) a t)) 0 39 a) 0 40 t z k = ml_S1 Q now z k := fun z k hz => by rw [jx_u_a _ _ _ _ _ _ hz, jx_u_a _ _ _ _ _ _ hz, jx_u_a _ _ _ _ _ _ hz]
  refine ⟨mm_same_0 (mm_same_0 (mm_same_0 s1 (by decide)) (by decide)) (by decide), by omega, fun i q1 q2 q3 => ?_, fun κ s p k1 k2 k3 k4 k5 k6 => ?_, fun q => ⟨fun w => ?_, fun w z => ?_⟩, fun q => by omega⟩
  · rw [m0 _ _ (by decide), e32]
    exact i3 i q1 q2 ((only i q3).resolve_right (by omega))
  · rw [m0 _ _ (by decide), e19]
    refine i4 κ s p k1 k2 k3 k4 k5 (fun i r1 r2 => (k6 i r1 r2).trans ⟨fun z => (only i z).resolve_right (by omega), rp_mono⟩)
  · have d1 := mm_dwhy_eq s1 (rp_same L) hA (hv (j := L) (by omega) (Nat.le_refl _))
    rw [jx_u_j _ _ _ _ _ _ (by decide), jx_u_j _ _ _ _ _ _ (by decide), jx_u_eq, jx_u_j _ _ _ _ _ _ (by decide), jx_u_eq, jx_u_eq, show (L : Int) % 16 = a by omega, show (L : Int) / 16 = t by omega, ← d1]
    exact ⟨rfl, rfl, rfl⟩
  · rcases only L z with y | y
    · exact (i5 q).2 (by omega) y
    · omega
/-- the whole laid run -/
theorem rp_go {S : jx_M} {n : Int} {L : Nat} {e : Int} (H : rp_H S) (hL1 : ∀ k, k < L → ¬ rp_no S k) (hL2 : (L : Int) < 16 * n → rp_no S L) : ∀ (f : Nat) (now a lim : Int) (Q : jx_M), 17 * (e + 1 - now) + (17 - a) < (f : Int) + 17 → 0 ≤ a → a ≤ S 0 9 → (now ≤ e + 1 ∧ (now = e + 1 → a = 0)) → rp_I S n L now a lim Q → ∃ lim', rp_I S n L (e + 1) 0 lim' (ml_go e f now a lim Q)
  | 0, now, a, lim, Q, hf, a0, a1, hn, hI => by have := H.2.1; omega
  | f + 1, now, a, lim, Q, hf, a0, a1, hn, hI => by
    have h9 := H.2.1
    have e9 : Q 0 9 = S 0 9 := hI.1.2 9 (by decide)
    have e26 : Q 26 a = S 26 a := hI.1.1 26 a (by decide) (by decide) (by decide)
    have e27 : Q 0 27 = S 0 27 := hI.1.2 27 (by decide)
    have et : ml_t Q now a = ml_t S now a := by unfold ml_t; rw [e26, e27]
    have nxt : a = S 0 9 → rp_I S n L (now + 1) 0 lim Q := fun ea => by
      have key : ∀ j : Nat, (j : Int) % 16 < S 0 9 → (rp_ex S (now + 1) 0 j ↔ rp_ex S now a j) := fun j hj => by
        unfold rp_ex
        omega
      obtain ⟨i1, i2, i3, i4, i5, i6⟩ := hI
      exact ⟨i1, i2, fun j h1 h2 h3 => i3 j h1 h2 ((key j h2).mp h3), fun κ s p k1 k2 k3 k4 k5 k6 => i4 κ s p k1 k2 k3 k4 k5 (fun j q1 q2 => (k6 j q1 q2).trans (key j q2.1)), fun q => ⟨(i5 q).1, fun w z => (i5 q).2 w ((key L (hL2 q).1).mp z)⟩, i6⟩
    unfold ml_go
    by_cases c : e < now
    · rw [if_pos c]
      refine ⟨lim, ?_⟩
      have en : now = e + 1 := by omega
      rw [← en]
      rw [hn.2 en] at hI
      exact hI
    · rw [if_neg c, e9]
      by_cases c2 : S 0 9 ≤ a
      · rw [if_pos c2]
        exact rp_go H hL1 hL2 f (now + 1) 0 lim Q (by omega) (by omega) (by omega) (by omega) (nxt (by omega))
      · rw [if_neg c2]
        by_cases c3 : ml_sk Q now a lim
        · rw [if_pos c3]
          exact rp_go H hL1 hL2 f now (a + 1) lim Q (by omega) (by omega) (by omega) (by omega) (rp_skip H ⟨a0, by omega⟩ hI c3)
        · rw [if_neg c3]
          have c3' := c3
          unfold ml_sk at c3'
          rw [e26, e27, et] at c3'
          have z1 : 0 ≤ now - S 26 a := by omega
          have z2 : (now - S 26 a) % S 0 27 = 0 := by
            apply Classical.byContradiction
            intro w
            exact c3' (.inr (.inl w))
          have z3 : 16 * ml_t S now a + a < lim := by omega
          rw [et]
          by_cases c4 : (mm_does (ml_S1 Q now) a (ml_t S now a)).1 = 0
          · rw [if_pos c4]
            exact rp_go H hL1 hL2 f now (a + 1) lim _ (by omega) (by omega) (by omega) (by omega) (rp_run0 H hL1 hL2 ⟨a0, by omega⟩ hI z1 z2 z3 c4)
          · rw [if_neg c4]
            exact rp_go H hL1 hL2 f now (a + 1) _ _ (by omega) (by omega) (by omega) (by omega) (rp_run1 H hL1 ⟨a0, by omega⟩ hI z1 z2 z3 c4)
/-! the plain run -/
def rp_ag (P Q : jx_M) : Prop := (∀ j k : Int, 1 ≤ j → P j k = Q j k) ∧ ∀ k : Int, k < 38 → P 0 k = Q 0 k
theorem rp_ag_0 {P Q : jx_M} {k v : Int} (h : rp_ag P Q) (hk : 38 ≤ k) : rp_ag (jx_u P 0 k v) Q := ⟨fun j i a => by rw [jx_u_a _ _ _ _ _ _ (by omega)]; exact h.1 j i a, fun i a => by rw [jx_u_j _ _ _ _ _ _ (by omega)]; exact h.2 i a⟩
theorem rp_ag_does {P Q : jx_M} {a t : Int} (h : rp_ag P Q) : (mm_does P a t).1 = (mm_does Q a t).1 ∧ mm_dwhy P a t = mm_dwhy Q a t ∧ rp_ag (mm_does P a t).2 (mm_does Q a t).2 := by
  have v : ∀ k, mm_val P a k t = mm_val Q a k t := fun k => by
    unfold mm_val
    rw [h.1 7 _ (by decide), h.1 6 _ (by decide), h.1 8 _ (by decide), h.1 32 _ (by decide)]
  have ex : mm_x P a t = mm_x Q a t := by unfold mm_x; rw [v, h.1 1 _ (by decide), h.1 9 _ (by decide)]
  have ey : mm_y P a t = mm_y Q a t := by unfold mm_y; rw [v, h.1 6 _ (by decide)]
  have ew : mm_dwhy P a t = mm_dwhy Q a t := by
    unfold mm_dwhy mm_why
    rw [ex, ey, h.1 1 _ (by decide), h.1 5 _ (by decide), h.1 21 _ (by decide), h.1 22 _ (by decide)]
  have ee : mm_dend P a t = mm_dend Q a t := by
    unfold mm_dend
    rw [ex, ey, v, h.1 1 _ (by decide), h.1 5 _ (by decide), h.1 19 _ (by decide)]
  by_cases c : mm_dwhy Q a t = 0
  · rw [mm_does_0 c, mm_does_0 (ew.trans c)]
    refine ⟨rfl, ew, ?_⟩
    dsimp only
    unfold mm_dput
    rw [ee, ex, ey, h.1 1 _ (by decide), h.1 5 _ (by decide)]
    have up : ∀ {P Q : jx_M} (i j v : Int), 1 ≤ i → rp_ag P Q → rp_ag (jx_u P i j v) (jx_u Q i j v) := fun i j v hi h => ⟨fun a b c => by
      unfold jx_u
      rw [h.1 a b c], fun b c => by
      unfold jx_u
      rw [h.2 b c]⟩
    refine up _ _ _ (by decide) ?_
    split
    · exact up _ _ _ (by decide) h
    · exact h
  · rw [mm_does_n c, mm_does_n (fun z => c (ew.symm.trans z))]
    exact ⟨ew, ew, h⟩
theorem rp_flat {S : jx_M} {k0 : Nat} : ∀ k : Nat, k0 ≤ k → (∀ j, k0 ≤ j → j < k → ¬ (j : Int) % 16 < S 0 9) → rp S k = rp S k0
  | 0, h, _ => by rw [show k0 = 0 by omega]
  | k + 1, h, hj => by
    by_cases e : k0 = k + 1
    · rw [e]
    · rw [rp_neg (hj k (by omega) (by omega))]
      exact rp_flat k (by omega) (fun j a b => hj j a (by omega))
/-- what the plain run comes to -/
theorem rp_plain {S : jx_M} {n : Int} {L : Nat} (h9 : 1 ≤ S 0 9 ∧ S 0 9 ≤ 16) (hn : 0 ≤ n) (hL0 : (L : Int) ≤ 16 * n) (hL1 : ∀ k, k < L → ¬ rp_no S k) (hL2 : (L : Int) < 16 * n → rp_no S L) : ∀ (f : Nat) (t a : Int) (k : Nat) (P : jx_M), 17 * (n - t) + (17 - a) < (f : Int) + 17 → 0 ≤ t → t ≤ n → (t = n → a = 0) → 0 ≤ a → a ≤ S 0 9 → (k : Int) = 16 * t + a → (k ≤ L ∨ (a = S 0 9 ∧ ∀ j, L ≤ j → j < k → ¬ (j : Int) % 16 < S 0 9)) → rp_ag P (rp S k) → P 0 44 = t → P 0 38 = 0 →
    rp_ag (mp_go n f t a P) (rp S L) ∧ ((L : Int) < 16 * n → mp_go n f t a P 0 38 = mm_dwhy (rp S L) ((L : Int) % 16) ((L : Int) / 16) ∧ mp_go n f t a P 0 39 = (L : Int) % 16 ∧ mp_go n f t a P 0 40 = (L : Int) / 16 ∧ mp_go n f t a P 0 44 = (L : Int) / 16) ∧ ((L : Int) = 16 * n → mp_go n f t a P 0 38 = 0 ∧ mp_go n f t a P 0 39 = P 0 39 ∧ mp_go n f t a P 0 40 = P 0 40 ∧ mp_go n f t a P 0 44 = n)
  | 0, t, a, k, P, hf, t0, t1, t2, a0, a1, hk, hkL, hP, p44, p38 => by omega
  | f + 1, t, a, k, P, hf, t0, t1, t2, a0, a1, hk, hkL, hP, p44, p38 => by
    have e9 : P 0 9 = S 0 9 := (hP.2 9 (by decide)).trans ((rp_same k).2 9 (by decide))
    have hkL2 : k ≤ L ∨ (a = S 0 9 ∧ L < k ∧ ∀ j, L ≤ j → j < k → ¬ (j : Int) % 16 < S 0 9) := by
      rcases hkL with z | z
      · exact .inl z
      · by_cases c : k ≤ L
        · exact .inl c
        · exact .inr ⟨z.1, by omega, z.2⟩
    have hkL3 : k ≤ L := by
      rcases hkL2 with z | z
      · exact z
      · by_cases c : (L : Int) < 16 * n
        · exact absurd (hL2 c).1 (z.2.2 L (Nat.le_refl _) z.2.1)
        · by_cases tn : t = n
          · have := t2 tn; omega
          · omega
    unfold mp_go
    by_cases c : n ≤ t
    · rw [if_pos c]
      have : t = n := by omega
      have := t2 this
      have ek : k = L := by omega
      rw [ek] at hP
      exact ⟨hP, fun q => by omega, fun _ => ⟨p38, rfl, rfl, by omega⟩⟩
    · rw [if_neg c, e9]
      by_cases c2 : S 0 9 ≤ a
      · rw [if_pos c2]
        obtain ⟨k', hk'⟩ : ∃ k' : Nat, (k' : Int) = 16 * (t + 1) + 0 := ⟨(16 * (t + 1)).toNat, by omega⟩
        have fl : ∀ j, k ≤ j → j < k' → ¬ (j : Int) % 16 < S 0 9 := fun j q1 q2 => by omega
        have kL : k' ≤ L := by
          apply Classical.byContradiction
          intro w
          by_cases q : (L : Int) < 16 * n
          · exact fl L hkL3 (by omega) (hL2 q).1
          · omega
        refine rp_plain h9 hn hL0 hL1 hL2 f (t + 1) 0 k' (jx_u P 0 44 (t + 1)) (by omega) (by omega) (by omega) (fun _ => rfl) (by omega) (by omega) hk' (.inl kL) ?_ (jx_u_eq _ _ _ _) (by rw [jx_u_j _ _ _ _ _ _ (by decide)]; exact p38) |>.imp id (fun z => ⟨z.1, fun q => ?_⟩)
        · rw [rp_flat k' (by omega) fl]
          exact rp_ag_0 hP (by decide)
        · have := z.2 q
          rw [jx_u_j _ _ _ _ _ _ (by decide), jx_u_j _ _ _ _ _ _ (by decide)] at this
          exact this
      · rw [if_neg c2]
        have ea : (k : Int) % 16 = a := by omega
        have et : (k : Int) / 16 = t := by omega
        obtain ⟨P1, hP1⟩ : ∃ P1, P1 = jx_u (jx_u P 0 41 (P 0 41 + 1)) 0 42 (P 0 42 + P 2 a) := ⟨_, rfl⟩
        have g1 : rp_ag P1 (rp S k) := by rw [hP1]; exact rp_ag_0 (rp_ag_0 hP (by decide)) (by decide)
        have q1 : ∀ i, i = 38 ∨ i = 39 ∨ i = 40 ∨ i = 44 → P1 0 i = P 0 i := fun i hi => by rw [hP1, jx_u_j _ _ _ _ _ _ (by omega), jx_u_j _ _ _ _ _ _ (by omega)]
        have d := rp_ag_does (a := a) (t := t) g1
        rw [← hP1]
        by_cases kl : k < L
        · have nk := hL1 k kl
          have dk : mm_dwhy (rp S k) a t = 0 := by
            apply Classical.byContradiction
            intro z
            exact nk ⟨by omega, by rw [ea, et]; exact z⟩
          rw [if_pos (by rw [d.1, mm_does_0 dk])]
          refine rp_plain h9 hn hL0 hL1 hL2 f t (a + 1) (k + 1) (jx_u (mm_does P1 a t).2 0 38 0) (by omega) t0 t1 (fun z => by omega) (by omega) (by omega) (by omega) (.inl (by omega)) ?_ ?_ (jx_u_eq _ _ _ _) |>.imp id (fun z => ⟨z.1, fun q => ?_⟩)
          · refine rp_ag_0 ?_ (by decide)
            rw [rp_pos (by omega), ea, et]
            exact d.2.2
          · rw [jx_u_j _ _ _ _ _ _ (by decide), mm_does_0k, q1 44 (by omega)]
            exact p44
          · have := z.2 q
            rw [jx_u_j _ _ _ _ _ _ (by decide), jx_u_j _ _ _ _ _ _ (by decide), mm_does_0k, mm_does_0k, q1 39 (by omega), q1 40 (by omega)] at this
            exact this
        · have ek : k = L := by omega
          have LL : (L : Int) < 16 * n := by omega
          have rn := hL2 LL
          subst ek
          rw [ea, et]
          have dk : mm_dwhy (rp S k) a t ≠ 0 := by have := rn.2; rw [ea, et] at this; exact this
          rw [if_neg (by rw [d.1, mm_does_n dk]; exact dk)]
          refine ⟨?_, fun _ => ⟨?_, ?_, jx_u_eq _ _ _ _, ?_⟩, fun q => by omega⟩
          · refine rp_ag_0 (rp_ag_0 (rp_ag_0 ?_ (by decide)) (by decide)) (by decide)
            have := d.2.2
            rw [mm_does_n dk] at this
            exact this
          · rw [jx_u_j _ _ _ _ _ _ (by decide), jx_u_j _ _ _ _ _ _ (by decide), jx_u_eq, d.1, mm_does_n dk]
          · rw [jx_u_j _ _ _ _ _ _ (by decide), jx_u_eq]
          · rw [jx_u_j _ _ _ _ _ _ (by decide), jx_u_j _ _ _ _ _ _ (by decide), jx_u_j _ _ _ _ _ _ (by decide), mm_does_0k, q1 44 (by omega)]
            exact p44
theorem rp_max_ge {f : Int → Int} {v : Int} (h0 : 0 ≤ v) : ∀ k : Nat, v < k → f v ≤ mm_max f k
  | 0, h => by omega
  | k + 1, h => by
    unfold mm_max
    by_cases e : v = k
    · rw [e]; omega
    · have := rp_max_ge (f := f) h0 k (by omega)
      omega
/-- a laid run and a plain run come to the same -/
theorem rp_cmp {S : jx_M} {n : Int} (H : rp_H S) (h1 : 1 ≤ S 0 9) (hn : 1 ≤ n ∧ n ≤ 200) (z38 : S 0 38 = 0) (z44 : S 0 44 = 0) :
    (mu_laid n S 0 38 = mp_go n 4000 0 0 S 0 38 ∧ mu_laid n S 0 39 = mp_go n 4000 0 0 S 0 39 ∧ mu_laid n S 0 40 = mp_go n 4000 0 0 S 0 40 ∧ mu_laid n S 0 44 = mp_go n 4000 0 0 S 0 44) ∧
    (∀ p, 0 ≤ p → p < 320 → mu_laid n S 19 p = mp_go n 4000 0 0 S 19 p) ∧ ∀ k, 0 ≤ k → k < S 0 9 → 0 < mp_go n 4000 0 0 S 0 44 → mu_laid n S 32 (16 * (mp_go n 4000 0 0 S 0 44 - 1) + k) = mp_go n 4000 0 0 S 32 (16 * (mp_go n 4000 0 0 S 0 44 - 1) + k) := by
  have h9 := H.2.1
  have hB := H.1
  obtain ⟨L, l1, l2, l3⟩ := rp_first (S := S) (16 * n).toNat
  have hL0 : (L : Int) ≤ 16 * n := by omega
  have hL2 : (L : Int) < 16 * n → rp_no S L := fun q => l3 (by omega)
  have tk0 : ∀ j : Nat, (j : Int) % 16 < S 0 9 → 0 ≤ rp_tk S j := fun j hj => by
    have q1 := (H.2.2.2.1 _ (by omega) hj).2
    have q2 : 0 ≤ S 0 27 * ((j : Int) / 16) := Int.mul_nonneg (by omega) (by omega)
    unfold rp_tk
    omega
  have nex : ∀ j : Nat, (j : Int) % 16 < S 0 9 → ¬ rp_ex S 0 0 j := fun j hj z => by
    have := tk0 j hj
    rcases z with z | z <;> omega
  have I0 : rp_I S n L 0 0 (16 * n) S := by
    refine ⟨mm_same_rf, ⟨hL0, Int.le_refl _⟩, fun j _ q1 q2 => absurd q2 (nex j q1), fun κ s p k1 k2 k3 k4 k5 k6 => ?_, fun q => ⟨fun w => by omega, fun _ => nex L (hL2 q).1⟩, fun _ => ⟨rfl, rfl, rfl⟩⟩
    exact (rp_19 (k0 := 0) H.2.2.1 (fun b b0 b1 b5 => (H.2.2.2.1 b b0 b1).1.2.1 (.inr b5)) ⟨k4, k5⟩ κ (by omega) (fun j _ z1 z2 => nex j z2.1 ((k6 j (by omega) z2).mp z1))).symm
  have he0 : 0 ≤ ml_e n S := by
    have q1 := (H.2.2.2.1 0 (by omega) (by omega)).2
    have q2 := rp_max_ge (f := S 26) (v := 0) (by omega) (S 0 9).toNat (by omega)
    have q3 : 0 ≤ S 0 27 * (n - 1) := Int.mul_nonneg (by omega) (by omega)
    unfold ml_e
    omega
  obtain ⟨lim, i1, i2, i3, i4, i5, i6⟩ := rp_go H l2 hL2 (e := ml_e n S) (17 * (ml_e n S).toNat + 100) 0 0 (16 * n) S (by omega) (by omega) (by omega) (by omega) I0
  have all : ∀ j : Nat, (j : Int) < 16 * n → (j : Int) % 16 < S 0 9 → rp_ex S (ml_e n S + 1) 0 j := fun j q1 q2 => by
    refine .inl ?_
    have q3 := rp_max_ge (f := S 26) (v := (j : Int) % 16) (by omega) (S 0 9).toNat (by omega)
    have q4 : S 0 27 * ((j : Int) / 16) ≤ S 0 27 * (n - 1) := Int.mul_le_mul_of_nonneg_left (by omega) (by omega)
    unfold rp_tk ml_e
    omega
  have hp := rp_plain (n := n) ⟨h1, h9.2⟩ (by omega) hL0 l2 hL2 4000 0 0 0 S (by omega) (by omega) (by omega) (fun z => by omega) (by omega) (by omega) (by omega) (.inl (by omega)) ⟨fun _ _ _ => rfl, fun _ _ => rfl⟩ z44 z38
  obtain ⟨p1, p2, p3⟩ := hp
  generalize hQ : ml_go (ml_e n S) (17 * (ml_e n S).toNat + 100) 0 0 (16 * n) S = Q at i1 i3 i4 i5 i6
  have eQ : mu_laid n S = jx_u Q 0 44 (if Q 0 38 = 0 then n else Q 0 40) := by
    unfold mu_laid ml_done
    rw [hQ]
  generalize mp_go n 4000 0 0 S = P at p1 p2 p3 ⊢
  rw [eQ]
  have rows : ∀ p, 0 ≤ p → p < 320 → jx_u Q 0 44 (if Q 0 38 = 0 then n else Q 0 40) 19 p = P 19 p := fun p p0 p1' => by
    rw [jx_u_a _ _ _ _ _ _ (by decide), p1.1 19 _ (by decide)]
    exact i4 L (p / 40) p (Nat.le_refl _) (by omega) (by omega) (by omega) (by omega) (fun j q1 q2 => ⟨fun _ => all j (by omega) q2.1, fun _ => q1⟩)
  have ends : ∀ j : Nat, j < L → (j : Int) % 16 < S 0 9 → Q 32 j = P 32 j := fun j q1 q2 => by
    rw [i3 j q1 q2 (all j (by omega) q2), p1.1 32 _ (by decide), rp_32 L q1]
  have fin : P 0 44 ≤ (L : Int) / 16 → ∀ k, 0 ≤ k → k < S 0 9 → 0 < P 0 44 → jx_u Q 0 44 (if Q 0 38 = 0 then n else Q 0 40) 32 (16 * (P 0 44 - 1) + k) = P 32 (16 * (P 0 44 - 1) + k) := fun q k k0 k1 k2 => by
    rw [jx_u_a _ _ _ _ _ _ (by decide)]
    have := ends (16 * (P 0 44 - 1) + k).toNat (by omega) (by omega)
    rw [show (((16 * (P 0 44 - 1) + k).toNat : Nat) : Int) = 16 * (P 0 44 - 1) + k by omega] at this
    exact this
  by_cases q : (L : Int) < 16 * n
  · obtain ⟨a1, a2, a3, a4⟩ := p2 q
    have lL : lim = L := by
      apply Classical.byContradiction
      intro w
      exact (i5 q).2 (by omega) (all L q (hL2 q).1)
    obtain ⟨b1, b2, b3⟩ := (i5 q).1 lL
    have nz : Q 0 38 ≠ 0 := by rw [b1]; exact (hL2 q).2
    refine ⟨⟨?_, ?_, ?_, ?_⟩, rows, fin (by omega)⟩
    · rw [jx_u_j _ _ _ _ _ _ (by decide), a1, b1]
    · rw [jx_u_j _ _ _ _ _ _ (by decide), a2, b2]
    · rw [jx_u_j _ _ _ _ _ _ (by decide), a3, b3]
    · rw [jx_u_eq, if_neg nz, a4, b3]
  · have q' : (L : Int) = 16 * n := by omega
    obtain ⟨a1, a2, a3, a4⟩ := p3 q'
    obtain ⟨b1, b2, b3⟩ := i6 q'
    refine ⟨⟨?_, ?_, ?_, ?_⟩, rows, fin (by omega)⟩
    · rw [jx_u_j _ _ _ _ _ _ (by decide), a1, b1, z38]
    · rw [jx_u_j _ _ _ _ _ _ (by decide), a2, b2]
    · rw [jx_u_j _ _ _ _ _ _ (by decide), a3, b3]
    · rw [jx_u_eq, if_pos (by rw [b1, z38]), a4]
