/-! MATHS 2: one phase of Floyd -/
theorem mm_ph_pos {m u v : Int} {W : Int → Int → Int} (h : mm_has W u m ∧ mm_has W m v) : mm_ph m W u v = max (W u v) (W u m + W m v) := if_pos h
theorem mm_ph_neg {m u v : Int} {W : Int → Int → Int} (h : ¬ (mm_has W u m ∧ mm_has W m v)) : mm_ph m W u v = W u v := if_neg h
theorem mm_ph_ge {m u v : Int} {W : Int → Int → Int} : W u v ≤ mm_ph m W u v := by
  by_cases h : mm_has W u m ∧ mm_has W m v
  · rw [mm_ph_pos h]; omega
  · rw [mm_ph_neg h]; omega
theorem mm_ph_has {m u v : Int} {W : Int → Int → Int} (h : mm_has W u v) : mm_has (mm_ph m W) u v := by
  have := @mm_ph_ge m u v W
  unfold mm_has at h ⊢
  omega
theorem mm_ph_snd {n m : Int} {W : Int → Int → Int} {f : Int → Int} (hm : 0 ≤ m ∧ m < n) (h : mm_snd n W f) : mm_snd n (mm_ph m W) f := by
  intro u v a b c d hh
  by_cases q : mm_has W u m ∧ mm_has W m v
  · have h1 := h u m a b hm.1 hm.2 q.1
    have h2 := h m v hm.1 hm.2 c d q.2
    rw [mm_ph_pos q]
    unfold mm_has at hh
    rw [mm_ph_pos q] at hh
    rcases (show W u v ≤ W u m + W m v ∨ W u m + W m v < W u v by omega) with z | z
    · omega
    · have := h u v a b c d (by unfold mm_has; omega)
      omega
  · rw [mm_ph_neg q]
    unfold mm_has at hh
    rw [mm_ph_neg q] at hh
    exact h u v a b c d hh
/-- row and column m stay where no ring is above 0 -/
theorem mm_ph_row {m v : Int} {W : Int → Int → Int} (h : W m m ≤ 0) : mm_ph m W m v = W m v := by
  by_cases q : mm_has W m m ∧ mm_has W m v
  · rw [mm_ph_pos q]; omega
  · exact mm_ph_neg q
theorem mm_ph_col {m u : Int} {W : Int → Int → Int} (h : W m m ≤ 0) : mm_ph m W u m = W u m := by
  by_cases q : mm_has W u m ∧ mm_has W m m
  · rw [mm_ph_pos q]; omega
  · exact mm_ph_neg q
/-- entries that are there are above -400000 -/
def mm_low (n : Int) (W : Int → Int → Int) : Prop := ∀ u v, 0 ≤ u → u < n → 0 ≤ v → v < n → mm_has W u v → -400000 ≤ W u v
theorem mm_ph_new {n m u v : Int} {W : Int → Int → Int} (hm : 0 ≤ m ∧ m < n) (hl : mm_low n W) (a : 0 ≤ u ∧ u < n) (b : 0 ≤ v ∧ v < n) (h1 : mm_has W u m) (h2 : mm_has W m v) : mm_has (mm_ph m W) u v := by
  have := hl u m a.1 a.2 hm.1 hm.2 h1
  have := hl m v hm.1 hm.2 b.1 b.2 h2
  unfold mm_has
  rw [mm_ph_pos ⟨h1, h2⟩]
  omega
theorem mm_ph_old {m u v : Int} {W : Int → Int → Int} (h : mm_has (mm_ph m W) u v) : mm_has W u v ∨ (mm_has W u m ∧ mm_has W m v) := by
  by_cases q : mm_has W u m ∧ mm_has W m v
  · exact Or.inr q
  · unfold mm_has at h
    rw [mm_ph_neg q] at h
    exact Or.inl h
theorem mm_ph_clo {n m : Int} {W : Int → Int → Int} (hm : 0 ≤ m ∧ m < n) (hl : mm_low n W) (hd : W m m ≤ 0) (h : mm_clo n m W) : mm_clo n (m + 1) (mm_ph m W) := by
  intro u v k a b c d e f h1 h2
  have tri : ∀ x y, 0 ≤ x → x < n → 0 ≤ y → y < n → ∀ j, 0 ≤ j → j < m → mm_has W x j → mm_has W j y → mm_has W x y ∧ W x j + W j y ≤ W x y := fun x y p q r s j t w z z' => h x y j p q r s t w z z'
  by_cases hk : k = m
  · subst hk
    have h1' : mm_has W u k := by unfold mm_has at h1 ⊢; rw [mm_ph_col hd] at h1; exact h1
    have h2' : mm_has W k v := by unfold mm_has at h2 ⊢; rw [mm_ph_row hd] at h2; exact h2
    refine ⟨mm_ph_new hm hl ⟨a, b⟩ ⟨c, d⟩ h1' h2', ?_⟩
    rw [mm_ph_col hd, mm_ph_row hd, mm_ph_pos ⟨h1', h2'⟩]
    omega
  · have hkm : k < m := by omega
    have hkn : k < n := by omega
    -- the four ways
    have key : ∀ (p q : Int), (p = W u k ∧ mm_has W u k ∨ p = W u m + W m k ∧ mm_has W u m ∧ mm_has W m k) → (q = W k v ∧ mm_has W k v ∨ q = W k m + W m v ∧ mm_has W k m ∧ mm_has W m v) → mm_has (mm_ph m W) u v ∧ p + q ≤ mm_ph m W u v := by
      intro p q hp hq
      rcases hp with ⟨p1, p2⟩ | ⟨p1, p2, p3⟩ <;> rcases hq with ⟨q1, q2⟩ | ⟨q1, q2, q3⟩
      · have t := tri u v a b c d k e hkm p2 q2
        have := @mm_ph_ge m u v W
        exact ⟨mm_ph_has t.1, by omega⟩
      · have t := tri u m a b hm.1 hm.2 k e hkm p2 q2
        have hn := mm_ph_new hm hl ⟨a, b⟩ ⟨c, d⟩ t.1 q3
        refine ⟨hn, ?_⟩
        rw [mm_ph_pos ⟨t.1, q3⟩]
        omega
      · have t := tri m v hm.1 hm.2 c d k e hkm p3 q2
        have hn := mm_ph_new hm hl ⟨a, b⟩ ⟨c, d⟩ p2 t.1
        refine ⟨hn, ?_⟩
        rw [mm_ph_pos ⟨p2, t.1⟩]
        omega
      · have t := tri m m hm.1 hm.2 hm.1 hm.2 k e hkm p3 q2
        have hn := mm_ph_new hm hl ⟨a, b⟩ ⟨c, d⟩ p2 q3
        refine ⟨hn, ?_⟩
        rw [mm_ph_pos ⟨p2, q3⟩]
        omega
    have side : ∀ x y, mm_has (mm_ph m W) x y → (mm_ph m W x y = W x y ∧ mm_has W x y ∨ mm_ph m W x y = W x m + W m y ∧ mm_has W x m ∧ mm_has W m y) := by
      intro x y hh
      by_cases q : mm_has W x m ∧ mm_has W m y
      · rw [mm_ph_pos q]
        unfold mm_has at hh
        rw [mm_ph_pos q] at hh
        rcases (show W x y ≤ W x m + W m y ∨ W x m + W m y < W x y by omega) with z | z
        · exact Or.inr ⟨by omega, q⟩
        · exact Or.inl ⟨by omega, by unfold mm_has; omega⟩
      · rw [mm_ph_neg q]
        unfold mm_has at hh
        rw [mm_ph_neg q] at hh
        exact Or.inl ⟨rfl, hh⟩
    exact key _ _ (side u k h1) (side k v h2)
/-- closed through all: the least solution -/
noncomputable def mm_top (W : Int → Int → Int) (v : Int) : Nat → Int
  | 0 => 0
  | k + 1 => max (mm_top W v k) (W k v)
theorem mm_top_0 (W : Int → Int → Int) (v : Int) : ∀ k, 0 ≤ mm_top W v k
  | 0 => Int.le_refl _
  | k + 1 => by
    have := mm_top_0 W v k
    unfold mm_top
    omega
theorem mm_top_ge (W : Int → Int → Int) (v : Int) : ∀ (k : Nat) (u : Int), 0 ≤ u → u < k → W u v ≤ mm_top W v k
  | 0, u, a, b => by omega
  | k + 1, u, a, b => by
    unfold mm_top
    by_cases h : u = k
    · rw [h]; omega
    · have := mm_top_ge W v k u a (by omega)
      omega
theorem mm_top_at (W : Int → Int → Int) (v : Int) : ∀ k : Nat, mm_top W v k = 0 ∨ ∃ u : Int, 0 ≤ u ∧ u < k ∧ mm_top W v k = W u v
  | 0 => Or.inl rfl
  | k + 1 => by
    unfold mm_top
    rcases (show mm_top W v k ≤ W k v ∨ W k v < mm_top W v k by omega) with z | z
    · exact Or.inr ⟨k, by omega, by omega, by omega⟩
    · rw [show max (mm_top W v k) (W k v) = mm_top W v k by omega]
      rcases mm_top_at W v k with q | ⟨u, a, b, c⟩
      · exact Or.inl q
      · exact Or.inr ⟨u, a, by omega, c⟩
theorem mm_fw {n : Nat} {m : Int} {eA eB eW : Int → Int} {W : Int → Int → Int} (hE : mm_ends m eA eB) (hc : mm_clo n n W) (hi : ∀ e, 0 ≤ e → e < m → mm_on n eA eB e → mm_has W (eA e) (eB e) ∧ eW e ≤ W (eA e) (eB e)) (hs : ∀ f, mm_Sol n m eA eB eW f → mm_snd n W f) : mm_Least n m eA eB eW (fun v => mm_top W v n) := by
  refine ⟨⟨fun v _ _ => mm_top_0 W v n, fun e a b c => ?_⟩, fun f hf v a b => ?_⟩
  · have hA := (hE e a b).1
    have hB := (hE e a b).2
    obtain ⟨i1, i2⟩ := hi e a b c
    dsimp only
    have g1 := mm_top_ge W (eB e) n
    rcases mm_top_at W (eA e) n with q | ⟨u, u1, u2, u3⟩
    · have := g1 (eA e) hA c.1
      omega
    · by_cases hz : W u (eA e) ≤ 0
      · have := g1 (eA e) hA c.1
        omega
      · have t := hc u (eB e) (eA e) u1 u2 hB c.2 hA c.1 (by unfold mm_has; omega) i1
        have := g1 u u1 u2
        omega
  · dsimp only
    rcases mm_top_at W v n with q | ⟨u, u1, u2, u3⟩
    · rw [q]; exact hf.1 v a b
    · by_cases hz : W u v ≤ 0
      · have := hf.1 v a b
        omega
      · have := hs f hf u v u1 u2 a b (by unfold mm_has; omega)
        have := hf.1 u u1 u2
        omega
