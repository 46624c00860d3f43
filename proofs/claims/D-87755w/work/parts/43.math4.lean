/-! MATHS 4: sums; a least solution exists where there is one; passes and rounds -/
def mm_sum (f : Int → Int) : Nat → Int
  | 0 => 0
  | k + 1 => mm_sum f k + f k
theorem mm_sum_le {f g : Int → Int} : ∀ n : Nat, (∀ v : Int, 0 ≤ v → v < n → f v ≤ g v) → mm_sum f n ≤ mm_sum g n
  | 0, _ => Int.le_refl _
  | k + 1, h => by
    have ih := mm_sum_le (f := f) (g := g) k (fun v a b => h v a (by omega))
    have := h k (by omega) (by omega)
    unfold mm_sum
    omega
theorem mm_sum_eq {f g : Int → Int} (n : Nat) (h : ∀ v : Int, 0 ≤ v → v < n → f v = g v) : mm_sum f n = mm_sum g n :=
  Int.le_antisymm (mm_sum_le n fun v a b => Int.le_of_eq (h v a b)) (mm_sum_le n fun v a b => Int.le_of_eq (h v a b).symm)
theorem mm_sum_lt {f g : Int → Int} : ∀ n : Nat, (∀ v : Int, 0 ≤ v → v < n → f v ≤ g v) → (∃ v : Int, 0 ≤ v ∧ v < n ∧ f v < g v) → mm_sum f n < mm_sum g n
  | 0, _, ⟨v, a, b, _⟩ => by omega
  | k + 1, h, ⟨v, a, b, c⟩ => by
    have hm := mm_sum_le (f := f) (g := g) k (fun v a b => h v a (by omega))
    have hk := h k (by omega) (by omega)
    unfold mm_sum
    by_cases hv : v = k
    · subst hv
      omega
    · have ih := mm_sum_lt (f := f) (g := g) k (fun v a b => h v a (by omega)) ⟨v, a, by omega, c⟩
      omega
theorem mm_sum_0 {f : Int → Int} (n : Nat) (h : ∀ v : Int, 0 ≤ v → v < n → 0 ≤ f v) : 0 ≤ mm_sum f n := by
  have h1 := mm_sum_le (f := fun _ => 0) (g := f) n h
  have h2 : ∀ n : Nat, mm_sum (fun _ => 0) n = 0 := by
    intro n
    induction n with
    | zero => rfl
    | succ k ih => unfold mm_sum; omega
  have := h2 n
  omega
theorem mm_sol_min {n m : Int} {eA eB eW f f' : Int → Int} (h : mm_Sol n m eA eB eW f) (h' : mm_Sol n m eA eB eW f') : mm_Sol n m eA eB eW (fun v => min (f v) (f' v)) := by
  refine ⟨fun v a b => ?_, fun e a b c => ?_⟩
  · have := h.1 v a b
    have := h'.1 v a b
    dsimp only
    omega
  · have := h.2 e a b c
    have := h'.2 e a b c
    dsimp only
    omega
theorem mm_least_ex {n m : Int} {eA eB eW : Int → Int} (h : ∃ f, mm_Sol n m eA eB eW f) : ∃ f, mm_Least n m eA eB eW f := by
  have go : ∀ (k : Nat) (f : Int → Int), mm_Sol n m eA eB eW f → (mm_sum f n.toNat).toNat ≤ k → ∃ f, mm_Least n m eA eB eW f := by
    intro k
    induction k with
    | zero =>
      intro f hf hk
      refine ⟨f, hf, fun f' hf' v a b => ?_⟩
      apply Classical.byContradiction
      intro hc
      have hs := mm_sol_min hf hf'
      have h1 := mm_sum_0 n.toNat (fun v a b => hs.1 v a (by omega))
      have h2 := mm_sum_lt (f := fun v => min (f v) (f' v)) (g := f) n.toNat (fun v a b => by omega) ⟨v, a, by omega, by omega⟩
      omega
    | succ k ih =>
      intro f hf hk
      by_cases hl : ∀ f', mm_Sol n m eA eB eW f' → ∀ v, 0 ≤ v → v < n → f v ≤ f' v
      · exact ⟨f, hf, hl⟩
      · have hl : ∃ f', mm_Sol n m eA eB eW f' ∧ ∃ v, 0 ≤ v ∧ v < n ∧ ¬ f v ≤ f' v := by
          apply Classical.byContradiction
          intro hc
          exact hl fun f' hf' v a b => Classical.byContradiction fun z => hc ⟨f', hf', v, a, b, z⟩
        obtain ⟨f', hf', v, a, b, c⟩ := hl
        have hs := mm_sol_min hf hf'
        have h2 := mm_sum_lt (f := fun v => min (f v) (f' v)) (g := f) n.toNat (fun v a b => by omega) ⟨v, a, by omega, by omega⟩
        exact ih _ hs (by omega)
  obtain ⟨f, hf⟩ := h
  exact go _ f hf (Nat.le_refl _)
/-- a pass over the edges: from P it came to Q, e edges are done -/
def mm_ps (n m : Int) (eA eB eW P Q : Int → Int) (e : Int) : Prop := (∀ v, 0 ≤ v → v < n → P v ≤ Q v) ∧ (∀ e', 0 ≤ e' → e' < e → mm_on n eA eB e' → P (eA e') + eW e' ≤ Q (eB e')) ∧
  ∀ f, mm_Sol n m eA eB eW f → (∀ v, 0 ≤ v → v < n → P v ≤ f v) → ∀ v, 0 ≤ v → v < n → Q v ≤ f v
theorem mm_ps_0 {n m : Int} {eA eB eW P Q : Int → Int} (h : ∀ v, 0 ≤ v → v < n → Q v = P v) : mm_ps n m eA eB eW P Q 0 :=
  ⟨fun v a b => Int.le_of_eq (h v a b).symm, fun e' a b => by omega, fun f _ h' v a b => by rw [h v a b]; exact h' v a b⟩
theorem mm_ps_go {n m : Int} {eA eB eW P Q Q' : Int → Int} {e : Int} (hE : mm_ends m eA eB) (he : 0 ≤ e ∧ e < m) (h : mm_ps n m eA eB eW P Q e) (hQ : ∀ v, 0 ≤ v → v < n → Q' v = mm_rx n eA eB eW e Q v) : mm_ps n m eA eB eW P Q' (e + 1) := by
  obtain ⟨h1, h2, h3⟩ := h
  refine ⟨fun v a b => ?_, fun e' a b c => ?_, fun f hf hP v a b => ?_⟩
  · rw [hQ v a b]
    have := h1 v a b
    have := @mm_rx_ge n eA eB eW Q e v
    omega
  · have hB := (hE e' a (by omega)).2
    rw [hQ _ hB c.2]
    by_cases q : e' = e
    · subst q
      have hA := (hE e' a (by omega)).1
      have := mm_rx_edge (eW := eW) (P := Q) c
      have := h1 _ hA c.1
      omega
    · have := h2 e' a (by omega) c
      have := @mm_rx_ge n eA eB eW Q e (eB e')
      omega
  · rw [hQ v a b]
    exact mm_rx_le hE he hf (fun v a b => h3 f hf hP v a b) v a b
/-- a step of a pass, by cases -/
theorem mm_ps_y {n m : Int} {eA eB eW P Q Q' : Int → Int} {e : Int} (hE : mm_ends m eA eB) (he : 0 ≤ e ∧ e < m) (h : mm_ps n m eA eB eW P Q e) (ho : mm_on n eA eB e) (hl : Q (eB e) < Q (eA e) + eW e) (h1 : Q' (eB e) = Q (eA e) + eW e) (h2 : ∀ v, v ≠ eB e → Q' v = Q v) : mm_ps n m eA eB eW P Q' (e + 1) :=
  mm_ps_go hE he h fun v a b => by
    unfold mm_rx
    by_cases q : v = eB e
    · rw [if_pos ⟨ho, q, hl⟩, q, h1]
    · rw [if_neg (fun z => q z.2.1), h2 v q]
theorem mm_ps_n {n m : Int} {eA eB eW P Q : Int → Int} {e : Int} (hE : mm_ends m eA eB) (he : 0 ≤ e ∧ e < m) (h : mm_ps n m eA eB eW P Q e) (hl : mm_on n eA eB e → Q (eA e) + eW e ≤ Q (eB e)) : mm_ps n m eA eB eW P Q (e + 1) :=
  mm_ps_go hE he h fun v a b => by
    unfold mm_rx
    rw [if_neg (fun z => by have := hl z.1; omega)]
/-- nothing moved: a solution, and the least -/
theorem mm_ps_end {n m : Int} {eA eB eW P Q : Int → Int} (h0 : ∀ v, 0 ≤ v → v < n → 0 ≤ P v) (hE : mm_ends m eA eB) (h : mm_ps n m eA eB eW P Q m) (hq : ∀ v, 0 ≤ v → v < n → Q v = P v) : mm_Sol n m eA eB eW Q :=
  ⟨fun v a b => by rw [hq v a b]; exact h0 v a b, fun e a b c => by rw [hq _ (hE e a b).1 c.1]; exact h.2.1 e a b c⟩
/-- at a round's start -/
def mm_rd (n m : Int) (eA eB eW P : Int → Int) (r : Nat) : Prop := (∀ v, 0 ≤ v → v < n → 0 ≤ P v) ∧ (∀ f, mm_Sol n m eA eB eW f → ∀ v, 0 ≤ v → v < n → P v ≤ f v) ∧ ∀ f, mm_Least n m eA eB eW f → r < mm_cnt (fun v => P v = f v) n.toNat
theorem mm_rd_0 {n m : Int} {eA eB eW P : Int → Int} (hn : 0 < n) (h : ∀ v, 0 ≤ v → v < n → P v = 0) : mm_rd n m eA eB eW P 0 := by
  refine ⟨fun v a b => by rw [h v a b]; omega, fun f hf v a b => by rw [h v a b]; exact hf.1 v a b, fun f hf => ?_⟩
  obtain ⟨v, a, b, c⟩ := mm_first hf hn
  exact mm_cnt_pos n.toNat ⟨v, a, by omega, by rw [h v a b, c]⟩
theorem mm_rd_next {n m : Int} {eA eB eW P Q : Int → Int} {r : Nat} (hE : mm_ends m eA eB) (h : mm_rd n m eA eB eW P r) (hp : mm_ps n m eA eB eW P Q m) (hm : ∃ v, 0 ≤ v ∧ v < n ∧ Q v ≠ P v) : mm_rd n m eA eB eW Q (r + 1) := by
  obtain ⟨h1, h2, h3⟩ := h
  have hQ : ∀ f, mm_Sol n m eA eB eW f → ∀ v, 0 ≤ v → v < n → Q v ≤ f v := fun f hf => hp.2.2 f hf (h2 f hf)
  refine ⟨fun v a b => Int.le_trans (h1 v a b) (hp.1 v a b), hQ, fun f hf => ?_⟩
  have hne : ∃ v, 0 ≤ v ∧ v < n ∧ P v ≠ f v := by
    obtain ⟨v, a, b, c⟩ := hm
    refine ⟨v, a, b, fun z => c ?_⟩
    have := hQ f hf.1 v a b
    have := hp.1 v a b
    omega
  obtain ⟨v, a, b, c, d⟩ := mm_grow hf hE h1 (h2 f hf.1) (hQ f hf.1) (fun e a b c => hp.2.1 e a b c) hne
  have := mm_cnt_lt (p := fun v => P v = f v) (q := fun v => Q v = f v) n.toNat (fun v a b z => by
    have := hQ f hf.1 v a (by omega)
    have := hp.1 v a (by omega)
    show Q v = f v
    have z : P v = f v := z
    omega) ⟨v, a, by omega, d, c⟩
  have := h3 f hf
  omega
theorem mm_rd_end {n m : Int} {eA eB eW P : Int → Int} {r : Nat} (h : mm_rd n m eA eB eW P r) (hr : n ≤ r) (hn : 0 ≤ n) : ¬ ∃ f, mm_Sol n m eA eB eW f := by
  intro hs
  obtain ⟨f, hf⟩ := mm_least_ex hs
  have h1 := h.2.2 f hf
  have h2 := mm_cnt_le (fun v => P v = f v) n.toNat
  omega
theorem mm_rd_sol {n m : Int} {eA eB eW P Q : Int → Int} {r : Nat} (hE : mm_ends m eA eB) (h : mm_rd n m eA eB eW P r) (hp : mm_ps n m eA eB eW P Q m) (hq : ∀ v, 0 ≤ v → v < n → Q v = P v) : mm_Least n m eA eB eW Q :=
  ⟨mm_ps_end h.1 hE hp hq, fun f hf v a b => by rw [hq v a b]; exact h.2.1 f hf v a b⟩
/-- edges as a set of quadruples, written down in four arrays -/
abbrev mm_E : Type := Int → Int → Int → Int → Prop
def mm_EO (E : mm_E) (A B T U : Int → Int) (n : Int) : Prop := (∀ e, 0 ≤ e → e < n → E (A e) (B e) (T e) (U e)) ∧ ∀ a b t d, E a b t d → ∃ e, 0 ≤ e ∧ e < n ∧ A e = a ∧ B e = b ∧ T e = t ∧ U e = d
theorem mm_EO_0 {A B T U : Int → Int} : mm_EO (fun _ _ _ _ => False) A B T U 0 := ⟨fun e a b => by omega, fun _ _ _ _ h => h.elim⟩
theorem mm_EO_iff {E E' : mm_E} {A B T U : Int → Int} {n : Int} (h : mm_EO E A B T U n) (hE : ∀ a b t d, E a b t d ↔ E' a b t d) : mm_EO E' A B T U n :=
  ⟨fun e a b => (hE _ _ _ _).mp (h.1 e a b), fun a b t d q => h.2 a b t d ((hE _ _ _ _).mpr q)⟩
theorem mm_EO_add {E : mm_E} {A B T U A' B' T' U' : Int → Int} {n a b t d : Int} (hn : 0 ≤ n) (h : mm_EO E A B T U n) (hA : ∀ e, e < n → A' e = A e) (hB : ∀ e, e < n → B' e = B e) (hT : ∀ e, e < n → T' e = T e) (hU : ∀ e, e < n → U' e = U e) (kA : A' n = a) (kB : B' n = b) (kT : T' n = t) (kU : U' n = d) :
    mm_EO (fun a' b' t' d' => E a' b' t' d' ∨ (a' = a ∧ b' = b ∧ t' = t ∧ d' = d)) A' B' T' U' (n + 1) := by
  refine ⟨fun e x y => ?_, fun a' b' t' d' q => ?_⟩
  · by_cases z : e = n
    · subst z
      exact Or.inr ⟨kA, kB, kT, kU⟩
    · left
      rw [hA e (by omega), hB e (by omega), hT e (by omega), hU e (by omega)]
      exact h.1 e x (by omega)
  · rcases q with q | ⟨rfl, rfl, rfl, rfl⟩
    · obtain ⟨e, x, y, z1, z2, z3, z4⟩ := h.2 a' b' t' d' q
      exact ⟨e, x, by omega, by rw [hA e y]; exact z1, by rw [hB e y]; exact z2, by rw [hT e y]; exact z3, by rw [hU e y]; exact z4⟩
    · exact ⟨n, hn, by omega, kA, kB, kT, kU⟩
theorem mm_EO_fr {E : mm_E} {A B T U A' B' T' U' : Int → Int} {n : Int} (h : mm_EO E A B T U n) (hA : ∀ e, e < n → A' e = A e) (hB : ∀ e, e < n → B' e = B e) (hT : ∀ e, e < n → T' e = T e) (hU : ∀ e, e < n → U' e = U e) : mm_EO E A' B' T' U' n := by
  refine ⟨fun e x y => ?_, fun a' b' t' d' q => ?_⟩
  · rw [hA e y, hB e y, hT e y, hU e y]
    exact h.1 e x y
  · obtain ⟨e, x, y, z1, z2, z3, z4⟩ := h.2 a' b' t' d' q
    exact ⟨e, x, y, by rw [hA e y]; exact z1, by rw [hB e y]; exact z2, by rw [hT e y]; exact z3, by rw [hU e y]; exact z4⟩
/-- solutions by the set alone -/
def mm_SolE (n : Int) (E : mm_E) (w : Int → Int → Int → Int → Int) (f : Int → Int) : Prop := (∀ v, 0 ≤ v → v < n → 0 ≤ f v) ∧ ∀ a b t d, E a b t d → a < n → b < n → f a + w a b t d ≤ f b
def mm_LeastE (n : Int) (E : mm_E) (w : Int → Int → Int → Int → Int) (f : Int → Int) : Prop := mm_SolE n E w f ∧ ∀ f', mm_SolE n E w f' → ∀ v, 0 ≤ v → v < n → f v ≤ f' v
theorem mm_sol_E {n m : Int} {E : mm_E} {w : Int → Int → Int → Int → Int} {A B T U f : Int → Int} (h : mm_EO E A B T U m) : mm_Sol n m A B (fun e => w (A e) (B e) (T e) (U e)) f ↔ mm_SolE n E w f := by
  constructor
  · intro hs
    refine ⟨hs.1, fun a b t d he ha hb => ?_⟩
    obtain ⟨e, x, y, rfl, rfl, rfl, rfl⟩ := h.2 a b t d he
    exact hs.2 e x y ⟨ha, hb⟩
  · intro hs
    exact ⟨hs.1, fun e x y c => hs.2 _ _ _ _ (h.1 e x y) c.1 c.2⟩
theorem mm_least_E {n m : Int} {E : mm_E} {w : Int → Int → Int → Int → Int} {A B T U f : Int → Int} (h : mm_EO E A B T U m) : mm_Least n m A B (fun e => w (A e) (B e) (T e) (U e)) f ↔ mm_LeastE n E w f := by
  constructor
  · intro hs
    exact ⟨(mm_sol_E h).mp hs.1, fun f' hf' => hs.2 f' ((mm_sol_E h).mpr hf')⟩
  · intro hs
    exact ⟨(mm_sol_E h).mpr hs.1, fun f' hf' => hs.2 f' ((mm_sol_E h).mp hf')⟩
theorem mm_leastE_unique {n : Int} {E : mm_E} {w : Int → Int → Int → Int → Int} {f f' : Int → Int} (h : mm_LeastE n E w f) (h' : mm_LeastE n E w f') : ∀ v, 0 ≤ v → v < n → f v = f' v :=
  fun v a b => Int.le_antisymm (h.2 f' h'.1 v a b) (h'.2 f h.1 v a b)
