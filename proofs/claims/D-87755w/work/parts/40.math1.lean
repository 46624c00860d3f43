/-! MATHS 1: counting; least solutions of y_b >= y_a + w; pushing comes to rest at the least one -/
/-- how many of 0 .. n-1 have p -/
noncomputable def mm_cnt (p : Int → Prop) : Nat → Nat
  | 0 => 0
  | k + 1 => mm_cnt p k + (@ite Nat (p k) (Classical.propDecidable _) 1 0)
theorem mm_cnt_le (p : Int → Prop) : ∀ n, mm_cnt p n ≤ n
  | 0 => Nat.le_refl _
  | k + 1 => by
    have := mm_cnt_le p k
    unfold mm_cnt
    split <;> omega
theorem mm_cnt_mono {p q : Int → Prop} : ∀ n : Nat, (∀ v : Int, 0 ≤ v → v < n → p v → q v) → mm_cnt p n ≤ mm_cnt q n
  | 0, _ => Nat.le_refl _
  | k + 1, h => by
    have ih := mm_cnt_mono (p := p) (q := q) k (fun v a b c => h v a (by omega) c)
    unfold mm_cnt
    by_cases hp : p k
    · rw [if_pos hp, if_pos (h k (by omega) (by omega) hp)]
      omega
    · rw [if_neg hp]
      split <;> omega
theorem mm_cnt_lt {p q : Int → Prop} : ∀ n : Nat, (∀ v : Int, 0 ≤ v → v < n → p v → q v) → (∃ v : Int, 0 ≤ v ∧ v < n ∧ q v ∧ ¬ p v) → mm_cnt p n < mm_cnt q n
  | 0, _, ⟨v, a, b, _⟩ => by omega
  | k + 1, h, ⟨v, a, b, c, d⟩ => by
    have hm := mm_cnt_mono (p := p) (q := q) k (fun v a b c => h v a (by omega) c)
    unfold mm_cnt
    by_cases hv : v = k
    · subst hv
      rw [if_neg d, if_pos c]
      omega
    · have ih := mm_cnt_lt (p := p) (q := q) k (fun v a b c => h v a (by omega) c) ⟨v, a, by omega, c, d⟩
      by_cases hp : p k
      · rw [if_pos hp, if_pos (h k (by omega) (by omega) hp)]
        omega
      · rw [if_neg hp]
        split <;> omega
theorem mm_cnt_pos {p : Int → Prop} (n : Nat) (h : ∃ v : Int, 0 ≤ v ∧ v < n ∧ p v) : 1 ≤ mm_cnt p n := by
  have := mm_cnt_lt (p := fun _ => False) (q := p) n (fun _ _ _ q => q.elim) (by obtain ⟨v, a, b, c⟩ := h; exact ⟨v, a, b, c, fun q => q⟩)
  omega
/-- edges: m of them, from eA to eB, weight eW; those between the first n count -/
def mm_on (n : Int) (eA eB : Int → Int) (e : Int) : Prop := eA e < n ∧ eB e < n
def mm_Sol (n m : Int) (eA eB eW : Int → Int) (f : Int → Int) : Prop := (∀ v, 0 ≤ v → v < n → 0 ≤ f v) ∧ ∀ e, 0 ≤ e → e < m → mm_on n eA eB e → f (eA e) + eW e ≤ f (eB e)
def mm_Least (n m : Int) (eA eB eW : Int → Int) (f : Int → Int) : Prop := mm_Sol n m eA eB eW f ∧ ∀ f', mm_Sol n m eA eB eW f' → ∀ v, 0 ≤ v → v < n → f v ≤ f' v
theorem mm_least_unique {n m : Int} {eA eB eW f f' : Int → Int} (h : mm_Least n m eA eB eW f) (h' : mm_Least n m eA eB eW f') : ∀ v, 0 ≤ v → v < n → f v = f' v :=
  fun v a b => Int.le_antisymm (h.2 f' h'.1 v a b) (h'.2 f h.1 v a b)
/-- all ends are acts -/
def mm_ends (m : Int) (eA eB : Int → Int) : Prop := ∀ e, 0 ≤ e → e < m → 0 ≤ eA e ∧ 0 ≤ eB e
/-- a pass over all edges that leaves off the least solution somewhere reaches it in a new place -/
theorem mm_grow {n m : Int} {eA eB eW f P P' : Int → Int} (hL : mm_Least n m eA eB eW f) (hE : mm_ends m eA eB) (h0 : ∀ v, 0 ≤ v → v < n → 0 ≤ P v) (h1 : ∀ v, 0 ≤ v → v < n → P v ≤ f v) (h2 : ∀ v, 0 ≤ v → v < n → P' v ≤ f v)
    (h3 : ∀ e, 0 ≤ e → e < m → mm_on n eA eB e → P (eA e) + eW e ≤ P' (eB e)) (hne : ∃ v, 0 ≤ v ∧ v < n ∧ P v ≠ f v) : ∃ v, 0 ≤ v ∧ v < n ∧ P v ≠ f v ∧ P' v = f v := by
  apply Classical.byContradiction
  intro hc
  have hc : ∀ v, 0 ≤ v → v < n → P v ≠ f v → P' v ≠ f v := fun v a b c d => hc ⟨v, a, b, c, d⟩
  have hS : mm_Sol n m eA eB eW (fun v => @ite Int (P v = f v) (Classical.propDecidable _) (f v) (f v - 1)) := by
    refine ⟨fun v a b => ?_, fun e a b c => ?_⟩
    · dsimp only
      split
      · exact hL.1.1 v a b
      · have := h0 v a b
        have := h1 v a b
        omega
    · have hf := hL.1.2 e a b c
      have hA := (hE e a b).1
      have hB := (hE e a b).2
      have q3 := h3 e a b c
      dsimp only
      by_cases pB : P (eB e) = f (eB e)
      · rw [if_pos pB]
        split <;> omega
      · have q2 := h2 (eB e) hB c.2
        have q4 := hc (eB e) hB c.2 pB
        rw [if_neg pB]
        split <;> omega
  obtain ⟨v, a, b, c⟩ := hne
  have := hL.2 _ hS v a b
  rw [if_neg c] at this
  omega
theorem mm_first {n m : Int} {eA eB eW f : Int → Int} (hL : mm_Least n m eA eB eW f) (hn : 0 < n) : ∃ v, 0 ≤ v ∧ v < n ∧ f v = 0 := by
  apply Classical.byContradiction
  intro hc
  have hc : ∀ v, 0 ≤ v → v < n → f v ≠ 0 := fun v a b c => hc ⟨v, a, b, c⟩
  have hS : mm_Sol n m eA eB eW (fun v => f v - 1) := by
    refine ⟨fun v a b => ?_, fun e a b c => ?_⟩
    · have := hL.1.1 v a b
      have := hc v a b
      show 0 ≤ f v - 1
      omega
    · have := hL.1.2 e a b c
      show f (eA e) - 1 + eW e ≤ f (eB e) - 1
      omega
  have := hL.2 _ hS 0 (by omega) hn
  omega
/-! Floyd: 'way' between n acts; NEVER = -1000000 says none -/
def mm_has (W : Int → Int → Int) (u v : Int) : Prop := -1000000 < W u v
/-- what each entry says holds for every solution -/
def mm_sound (n : Int) (W f : Int → Int → Int) : Prop := True
def mm_snd (n : Int) (W : Int → Int → Int) (f : Int → Int) : Prop := ∀ u v, 0 ≤ u → u < n → 0 ≤ v → v < n → mm_has W u v → f u + W u v ≤ f v
/-- closed under going on through k < m -/
def mm_clo (n m : Int) (W : Int → Int → Int) : Prop := ∀ u v k, 0 ≤ u → u < n → 0 ≤ v → v < n → 0 ≤ k → k < m → mm_has W u k → mm_has W k v → mm_has W u v ∧ W u k + W k v ≤ W u v
/-- one phase done at once -/
noncomputable def mm_ph (m : Int) (W : Int → Int → Int) : Int → Int → Int := fun u v => @ite Int (mm_has W u m ∧ mm_has W m v) (Classical.propDecidable _) (max (W u v) (W u m + W m v)) (W u v)
/-- a witness that an entry is not too low: a set of acts to go through -/
def mm_wit (n m K : Int) (W : Int → Int → Int) : Prop := ∀ u v, 0 ≤ u → u < n → 0 ≤ v → v < n → mm_has W u v → ∃ S : Int → Prop, (∀ k, S k → 0 ≤ k ∧ k < m ∧ mm_has W u k ∧ mm_has W k v) ∧ -K * ((mm_cnt S m.toNat : Int) + 1) ≤ W u v
