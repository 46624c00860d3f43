/-! FLOYD AS LoopLane DOES IT, in place: the maths -/
set_option maxRecDepth 100000
def xf_in (n u v : Int) : Prop := (0 ≤ u ∧ u < n) ∧ (0 ≤ v ∧ v < n)
def xf_I (n m : Int) (E : mm_E) (wt : Int → Int → Int → Int → Int) (W : Int → Int → Int) : Prop := (∀ u v, xf_in n u v → -1000000 ≤ W u v ∧ W u v ≤ 120 * 2 ^ m.toNat) ∧ mm_clo n m W ∧ mm_wit n m 400 W ∧
  (∀ a b t d, E a b t d → a < n → b < n → mm_has W a b ∧ wt a b t d ≤ W a b) ∧ ∀ f, mm_SolE n E wt f → mm_snd n W f
theorem xf_I_c {n m : Int} {E : mm_E} {wt : Int → Int → Int → Int → Int} {W W' : Int → Int → Int} (hm : m ≤ n) (hE : ∀ a b t d, E a b t d → 0 ≤ a ∧ 0 ≤ b) (e : ∀ u v, xf_in n u v → W' u v = W u v) (h : xf_I n m E wt W) : xf_I n m E wt W' := by
  obtain ⟨h1, h2, h3, h4, h5⟩ := h
  have eh : ∀ u v, xf_in n u v → (mm_has W' u v ↔ mm_has W u v) := fun u v q => by unfold mm_has; rw [e u v q]
  refine ⟨fun u v q => by rw [e u v q]; exact h1 u v q, fun u v k a b c d f g i j => ?_, fun u v a b c d i => ?_, fun a b t d i a1 b1 => ?_, fun f hf u v a b c d i => ?_⟩
  · have q1 : xf_in n u k := ⟨⟨a, b⟩, f, by omega⟩
    have q2 : xf_in n k v := ⟨⟨f, by omega⟩, c, d⟩
    have q3 : xf_in n u v := ⟨⟨a, b⟩, c, d⟩
    rw [eh u v q3, e u k q1, e k v q2, e u v q3]
    exact h2 u v k a b c d f g ((eh u k q1).mp i) ((eh k v q2).mp j)
  · have q3 : xf_in n u v := ⟨⟨a, b⟩, c, d⟩
    obtain ⟨S, s1, s2⟩ := h3 u v a b c d ((eh u v q3).mp i)
    refine ⟨S, fun k hk => ?_, by rw [e u v q3]; exact s2⟩
    obtain ⟨x1, x2, x3, x4⟩ := s1 k hk
    exact ⟨x1, x2, (eh u k ⟨⟨a, b⟩, x1, by omega⟩).mpr x3, (eh k v ⟨⟨x1, by omega⟩, c, d⟩).mpr x4⟩
  · have q3 : xf_in n a b := ⟨⟨(hE a b t d i).1, a1⟩, (hE a b t d i).2, b1⟩
    rw [eh a b q3, e a b q3]
    exact h4 a b t d i a1 b1
  · have q3 : xf_in n u v := ⟨⟨a, b⟩, c, d⟩
    rw [e u v q3]
    exact h5 f hf u v a b c d ((eh u v q3).mp i)
theorem xf_I_ph {n m : Int} {E : mm_E} {wt : Int → Int → Int → Int → Int} {W : Int → Int → Int} (hm : 0 ≤ m ∧ m < n) (hn : n ≤ 16) (hE : ∀ a b t d, E a b t d → 0 ≤ a ∧ 0 ≤ b) (h : xf_I n m E wt W) (hd : W m m ≤ 0) : xf_I n (m + 1) E wt (mm_ph m W) := by
  obtain ⟨h1, h2, h3, h4, h5⟩ := h
  have hl := mm_wit_low (by omega) ⟨hm.1, by omega⟩ h3
  have hp : (2 : Int) ^ (m + 1).toNat = 2 * 2 ^ m.toNat := by
    rw [show (m + 1).toNat = m.toNat + 1 by omega, Int.pow_succ]
    omega
  have h0 : (0 : Int) < 2 ^ m.toNat := Int.pow_pos (by decide)
  refine ⟨fun u v q => ?_, mm_ph_clo hm hl hd h2, mm_ph_wit (by omega) hm hn h2 h3, fun a b t d i a1 b1 => ?_, fun f hf => mm_ph_snd hm (h5 f hf)⟩
  · have q1 := h1 u v q
    have q2 := h1 u m ⟨q.1, hm⟩
    have q3 := h1 m v ⟨hm, q.2⟩
    rw [hp]
    by_cases c : mm_has W u m ∧ mm_has W m v
    · rw [mm_ph_pos c]; omega
    · rw [mm_ph_neg c]; omega
  · have q := h4 a b t d i a1 b1
    have := @mm_ph_ge m a b W
    exact ⟨mm_ph_has q.1, by omega⟩
/-- a ring above 0 -/
theorem xf_no {n m : Int} {E : mm_E} {wt : Int → Int → Int → Int → Int} {W : Int → Int → Int} {v : Int} (h : xf_I n m E wt W) (hv : 0 ≤ v ∧ v < n) (hp : 0 < W v v) : ¬ ∃ f, mm_SolE n E wt f := fun ⟨f, hf⟩ => by
  have := h.2.2.2.2 f hf v v hv.1 hv.2 hv.1 hv.2 (by unfold mm_has; omega)
  omega
theorem xf_diag {n : Int} {E : mm_E} {wt : Int → Int → Int → Int → Int} {W : Int → Int → Int} {v : Int} (h : xf_I n n E wt W) (hv : 0 ≤ v ∧ v < n) : W v v ≤ 0 := by
  apply Classical.byContradiction
  intro c
  have hh : mm_has W v v := by unfold mm_has; omega
  have := (h.2.1 v v v hv.1 hv.2 hv.1 hv.2 hv.1 hv.2 hh hh).2
  omega
/-- closed: the least solution -/
theorem xf_least {n : Nat} {E : mm_E} {wt : Int → Int → Int → Int → Int} {W : Int → Int → Int} (hE : ∀ a b t d, E a b t d → 0 ≤ a ∧ 0 ≤ b) (h : xf_I n n E wt W) : mm_LeastE n E wt (fun v => mm_top W v n) := by
  obtain ⟨-, hc, -, hi, hs⟩ := h
  refine ⟨⟨fun v _ _ => mm_top_0 W v n, fun a b t d e a1 b1 => ?_⟩, fun f hf v a b => ?_⟩
  · have h0 := hE a b t d e
    obtain ⟨i1, i2⟩ := hi a b t d e a1 b1
    dsimp only
    have g1 := mm_top_ge W b n
    rcases mm_top_at W a n with q | ⟨u, u1, u2, u3⟩
    · have := g1 a h0.1 a1
      omega
    · by_cases hz : W u a ≤ 0
      · have := g1 a h0.1 a1
        omega
      · have t := hc u b a u1 u2 h0.2 b1 h0.1 a1 (by unfold mm_has; omega) i1
        have := g1 u u1 u2
        omega
  · dsimp only
    rcases mm_top_at W v n with q | ⟨u, u1, u2, u3⟩
    · rw [q]; exact hf.1 v a b
    · by_cases hz : W u v ≤ 0
      · have := hf.1 v a b
        omega
      · have := hs f hf u v u1 u2 a b (by unfold mm_has; omega)
        have := hf.1 u u1 u2
        omega
/-- backwards -/
theorem xf_rev {n : Nat} {E : mm_E} {wt : Int → Int → Int → Int → Int} {W : Int → Int → Int} (hE : ∀ a b t d, E a b t d → 0 ≤ a ∧ 0 ≤ b) (h : xf_I n n E wt W) (hex : ∃ f, mm_SolE n E wt f) : mm_LeastE n (fun a b t d => E b a t d) (fun a b t d => wt b a t d) (fun v => mm_top (fun u v => W v u) v n) := by
  obtain ⟨-, hc, -, hi, hs⟩ := h
  refine ⟨⟨fun v _ _ => mm_top_0 _ v n, fun a b t d e a1 b1 => ?_⟩, fun f hf v a b => ?_⟩
  · have h0 := hE b a t d e
    obtain ⟨i1, i2⟩ := hi b a t d e b1 a1
    dsimp only
    have g1 := mm_top_ge (fun u v => W v u) b n
    rcases mm_top_at (fun u v => W v u) a n with q | ⟨u, u1, u2, u3⟩
    · have := g1 a h0.2 a1
      try dsimp only at this
      omega
    · try dsimp only at u3
      by_cases hz : W a u ≤ 0
      · have := g1 a h0.2 a1
        try dsimp only at this
        omega
      · have t := hc b u a h0.1 b1 u1 u2 h0.2 a1 i1 (by unfold mm_has; omega)
        have := g1 u u1 u2
        try dsimp only at this
        omega
  · dsimp only
    rcases mm_top_at (fun u v => W v u) v n with q | ⟨u, u1, u2, u3⟩
    · rw [q]; exact hf.1 v a b
    · try dsimp only at u3
      by_cases hz : W v u ≤ 0
      · have := hf.1 v a b
        omega
      · -- from a solution of the reversed edges to one of the edges: top - f
        obtain ⟨m, hm⟩ : ∃ m, m = mm_max f n := ⟨_, rfl⟩
        have hmx : ∀ w : Int, 0 ≤ w → w < n → f w ≤ m := fun w w0 w1 => by
          rw [hm]
          clear hf hs hc hi u3 hz hm
          induction n with
          | zero => omega
          | succ n ih =>
            unfold mm_max
            by_cases e : w = n
            · rw [e]; omega
            · have := @ih
              have hq : ∀ (k : Nat), w < k → f w ≤ mm_max f k := fun k => by
                induction k with
                | zero => intro z; omega
                | succ k ik =>
                  intro z
                  unfold mm_max
                  by_cases e2 : w = k
                  · rw [e2]; omega
                  · have := ik (by omega)
                    omega
              have := hq n (by omega)
              omega
        have hg : mm_SolE n E wt (fun w => m - f w) := ⟨fun w w0 w1 => by have := hmx w w0 w1; dsimp only; omega, fun a' b' t d e a1 b1 => by
          have := hf.2 b' a' t d e b1 a1
          dsimp only at this ⊢
          omega⟩
        have := hs _ hg v u a b u1 u2 (by unfold mm_has; omega)
        try dsimp only at this
        have := hf.1 u u1 u2
        omega
/-! one phase, cell by cell -/
def xf_lt (u v u0 v0 : Int) : Prop := u < u0 ∨ (u = u0 ∧ v < v0)
def xf_mid (n m u0 v0 : Int) (W0 W : Int → Int → Int) : Prop := ∀ u v, xf_in n u v → (xf_lt u v u0 v0 → W u v = mm_ph m W0 u v) ∧ (¬ xf_lt u v u0 v0 → W u v = W0 u v)
theorem xf_mid_0 {n m : Int} {W0 : Int → Int → Int} : xf_mid n m 0 0 W0 W0 := fun u v q => ⟨fun z => by unfold xf_lt at z; unfold xf_in at q; omega, fun _ => rfl⟩
theorem xf_mid_n {n m : Int} {W0 W : Int → Int → Int} (h : xf_mid n m n 0 W0 W) : ∀ u v, xf_in n u v → W u v = mm_ph m W0 u v := fun u v q => (h u v q).1 (by unfold xf_lt; unfold xf_in at q; omega)
theorem xf_mid_row {n m u0 v0 v : Int} {W0 W : Int → Int → Int} (hd : W0 m m ≤ 0) (hm : 0 ≤ m ∧ m < n) (h : xf_mid n m u0 v0 W0 W) (hv : 0 ≤ v ∧ v < n) : W m v = W0 m v := by
  have := h m v ⟨hm, hv⟩
  by_cases c : xf_lt m v u0 v0
  · rw [this.1 c, mm_ph_row hd]
  · exact this.2 c
theorem xf_mid_col {n m u0 v0 u : Int} {W0 W : Int → Int → Int} (hd : W0 m m ≤ 0) (hm : 0 ≤ m ∧ m < n) (h : xf_mid n m u0 v0 W0 W) (hu : 0 ≤ u ∧ u < n) : W u m = W0 u m := by
  have := h u m ⟨hu, hm⟩
  by_cases c : xf_lt u m u0 v0
  · rw [this.1 c, mm_ph_col hd]
  · exact this.2 c
/-- a cell is set -/
theorem xf_mid_s {n m u v : Int} {W0 W W' : Int → Int → Int} (hd : W0 m m ≤ 0) (hm : 0 ≤ m ∧ m < n) (hu : 0 ≤ u ∧ u < n) (hv : 0 ≤ v ∧ v < n) (h : xf_mid n m u v W0 W) (h1 : mm_has W u m) (h2 : mm_has W m v) (e1 : W' u v = max (W u v) (W u m + W m v)) (e2 : ∀ u' v', xf_in n u' v' → ¬ (u' = u ∧ v' = v) → W' u' v' = W u' v') : xf_mid n m u (v + 1) W0 W' := by
  have r := xf_mid_row hd hm h hv
  have c := xf_mid_col hd hm h hu
  intro u' v' q
  by_cases z : u' = u ∧ v' = v
  · rw [z.1, z.2]
    refine ⟨fun _ => ?_, fun w => absurd (show xf_lt u v u (v + 1) from .inr ⟨rfl, by omega⟩) w⟩
    have k := (h u v ⟨hu, hv⟩).2 (by unfold xf_lt; omega)
    unfold mm_has at h1 h2
    rw [r] at h2
    rw [c] at h1
    rw [e1, r, c, k, mm_ph_pos ⟨h1, h2⟩]
  · rw [e2 u' v' q z]
    have k := h u' v' q
    exact ⟨fun w => k.1 (by unfold xf_lt at *; omega), fun w => k.2 (by unfold xf_lt at *; omega)⟩
/-- a cell stays -/
theorem xf_mid_k {n m u v : Int} {W0 W : Int → Int → Int} (hd : W0 m m ≤ 0) (hm : 0 ≤ m ∧ m < n) (hu : 0 ≤ u ∧ u < n) (hv : 0 ≤ v ∧ v < n) (h : xf_mid n m u v W0 W) (h2 : ¬ mm_has W m v) : xf_mid n m u (v + 1) W0 W := by
  have r := xf_mid_row hd hm h hv
  intro u' v' q
  have k := h u' v' q
  refine ⟨fun w => ?_, fun w => k.2 (by unfold xf_lt at *; omega)⟩
  by_cases z : u' = u ∧ v' = v
  · rw [z.1, z.2] at k ⊢
    rw [k.2 (by unfold xf_lt; omega), mm_ph_neg (fun y => h2 (by unfold mm_has at *; rw [r]; exact y.2))]
  · exact k.1 (by unfold xf_lt at *; omega)
/-- a row is left -/
theorem xf_mid_r {n m u v : Int} {W0 W : Int → Int → Int} (hd : W0 m m ≤ 0) (hm : 0 ≤ m ∧ m < n) (hu : 0 ≤ u ∧ u < n) (h : xf_mid n m u v W0 W) (h2 : v = n ∨ ¬ mm_has W u m) : xf_mid n m (u + 1) 0 W0 W := by
  have c := xf_mid_col hd hm h hu
  intro u' v' q
  have k := h u' v' q
  refine ⟨fun w => ?_, fun w => k.2 (by unfold xf_lt at *; unfold xf_in at q; omega)⟩
  by_cases z : xf_lt u' v' u v
  · exact k.1 z
  · have eu : u' = u := by unfold xf_lt at *; unfold xf_in at q; omega
    rcases h2 with h2 | h2
    · unfold xf_lt at z
      unfold xf_in at q
      omega
    · rw [k.2 z, eu, mm_ph_neg (fun y => h2 (by unfold mm_has at *; rw [c]; exact y.1))]
/-- where there is a ring above 0: bounds alone -/
def xf_cap (m C u v : Int) : Int := if u = m ∧ v = m then 2 * C else if u = m ∨ v = m then 3 * C else 6 * C
noncomputable def xf_b (m C u0 v0 u v : Int) : Int := @ite _ (xf_lt u v u0 v0) (Classical.propDecidable _) (xf_cap m C u v) C
def xf_pos (n m C u0 v0 : Int) (W : Int → Int → Int) : Prop := (∀ u v, xf_in n u v → -1000000 ≤ W u v ∧ W u v ≤ xf_b m C u0 v0 u v) ∧ 0 < W m m
theorem xf_b_r {m C u0 v0 u v : Int} (hC : 0 ≤ C) : C ≤ xf_b m C u0 v0 u v ∧ xf_b m C u0 v0 u v ≤ 6 * C := by
  unfold xf_b xf_cap
  split
  · split
    · omega
    · split <;> omega
  · omega
theorem xf_b_up {m C u0 v0 u1 v1 u v : Int} (hC : 0 ≤ C) (h : xf_lt u v u0 v0 → xf_lt u v u1 v1) : xf_b m C u0 v0 u v ≤ xf_b m C u1 v1 u v := by
  by_cases c : xf_lt u v u0 v0
  · unfold xf_b
    rw [if_pos c, if_pos (h c)]
    exact Int.le_refl _
  · have := (xf_b_r (m := m) (u0 := u1) (v0 := v1) (u := u) (v := v) hC).1
    have e : xf_b m C u0 v0 u v = C := if_neg c
    omega
theorem xf_pos_s {n m C u v : Int} {W W' : Int → Int → Int} (hC : 0 ≤ C) (hm : 0 ≤ m ∧ m < n) (hu : 0 ≤ u ∧ u < n) (hv : 0 ≤ v ∧ v < n) (h : xf_pos n m C u v W) (e1 : W' u v = max (W u v) (W u m + W m v)) (e2 : ∀ u' v', xf_in n u' v' → ¬ (u' = u ∧ v' = v) → W' u' v' = W u' v') : xf_pos n m C u (v + 1) W' := by
  refine ⟨fun u' v' q => ?_, ?_⟩
  · by_cases z : u' = u ∧ v' = v
    · rw [z.1, z.2, e1]
      have k1 := h.1 u v ⟨hu, hv⟩
      have k2 := h.1 u m ⟨hu, hm⟩
      have k3 := h.1 m v ⟨hm, hv⟩
      refine ⟨by omega, ?_⟩
      have b0 : xf_b m C u v u v = C := if_neg (by unfold xf_lt; omega)
      have b1 : xf_b m C u (v + 1) u v = xf_cap m C u v := if_pos (.inr ⟨rfl, by omega⟩)
      rw [b1]
      rw [b0] at k1
      have b2 : xf_b m C u v u m ≤ (if v ≤ m then C else xf_cap m C u m) := by
        unfold xf_b
        split
        · rename_i c
          rw [if_neg (by unfold xf_lt at c; omega)]
          exact Int.le_refl _
        · split
          · exact Int.le_refl _
          · rename_i c d
            exact absurd (show xf_lt u m u v from .inr ⟨rfl, by omega⟩) c
      have b3 : xf_b m C u v m v ≤ (if u ≤ m then C else xf_cap m C m v) := by
        unfold xf_b
        split
        · rename_i c
          rw [if_neg (by unfold xf_lt at c; omega)]
          exact Int.le_refl _
        · split
          · exact Int.le_refl _
          · rename_i c d
            exact absurd (show xf_lt m v u v from .inl (by omega)) c
      unfold xf_cap at b2 b3 ⊢
      by_cases c1 : u = m
      · by_cases c2 : v = m
        · rw [if_pos (by omega)] at b2 b3
          rw [if_pos ⟨c1, c2⟩]
          omega
        · rw [if_pos (show u ≤ m by omega)] at b3
          rw [if_neg (by omega), if_pos (by omega)]
          rw [if_pos (show u = m ∧ m = m from ⟨c1, rfl⟩)] at b2
          split at b2 <;> omega
      · by_cases c2 : v = m
        · rw [if_pos (show v ≤ m by omega)] at b2
          rw [if_neg (by omega), if_pos (by omega)]
          rw [if_pos (show m = m ∧ v = m from ⟨rfl, c2⟩)] at b3
          split at b3 <;> omega
        · rw [if_neg (by omega), if_neg (by omega)]
          rw [if_neg (show ¬ (u = m ∧ m = m) by omega), if_pos (show u = m ∨ m = m from .inr rfl)] at b2
          rw [if_neg (show ¬ (m = m ∧ v = m) by omega), if_pos (show m = m ∨ v = m from .inl rfl)] at b3
          split at b2 <;> split at b3 <;> omega
    · rw [e2 u' v' q z]
      have k := h.1 u' v' q
      have := xf_b_up (m := m) (C := C) (u0 := u) (v0 := v) (u1 := u) (v1 := v + 1) (u := u') (v := v') hC (fun w => by unfold xf_lt at *; omega)
      omega
  · by_cases z : m = u ∧ m = v
    · have k : W u v = W m m := by rw [← z.1, ← z.2]
      have k' : W' u v = W' m m := by rw [← z.1, ← z.2]
      have := h.2
      omega
    · rw [e2 m m ⟨hm, hm⟩ z]
      exact h.2
theorem xf_pos_k {n m C u v u1 v1 : Int} {W : Int → Int → Int} (hC : 0 ≤ C) (h : xf_pos n m C u v W) (hle : ∀ u' v', xf_in n u' v' → xf_lt u' v' u v → xf_lt u' v' u1 v1) : xf_pos n m C u1 v1 W :=
  ⟨fun u' v' q => by
    have k := h.1 u' v' q
    have := xf_b_up (m := m) (C := C) (u0 := u) (v0 := v) (u1 := u1) (v1 := v1) (u := u') (v := v') hC (hle u' v' q)
    omega, h.2⟩
