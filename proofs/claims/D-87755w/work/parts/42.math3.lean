/-! MATHS 3: entries of Floyd are not too low -/
theorem mm_cnt_or {p q : Int → Prop} : ∀ n : Nat, (∀ v : Int, 0 ≤ v → v < n → ¬ (p v ∧ q v)) → mm_cnt (fun v => p v ∨ q v) n = mm_cnt p n + mm_cnt q n
  | 0, _ => rfl
  | k + 1, h => by
    have ih := mm_cnt_or (p := p) (q := q) k (fun v a b => h v a (by omega))
    have hk := h k (by omega) (by omega)
    unfold mm_cnt
    by_cases hp : p k
    · have hq : ¬ q k := fun z => hk ⟨hp, z⟩
      rw [if_pos (Or.inl hp), if_pos hp, if_neg hq]
      omega
    · by_cases hq : q k
      · rw [if_pos (Or.inr hq), if_neg hp, if_pos hq]
        omega
      · rw [if_neg (fun z => z.elim hp hq), if_neg hp, if_neg hq]
        omega
theorem mm_cnt_ext {p q : Int → Prop} (n : Nat) (h : ∀ v : Int, 0 ≤ v → v < n → (p v ↔ q v)) : mm_cnt p n = mm_cnt q n :=
  Nat.le_antisymm (mm_cnt_mono n fun v a b => (h v a b).mp) (mm_cnt_mono n fun v a b => (h v a b).mpr)
theorem mm_wit_low {n m K : Int} {W : Int → Int → Int} (hK : 0 ≤ K ∧ K ≤ 1000) (hm : 0 ≤ m ∧ m ≤ 16) (h : mm_wit n m K W) : mm_low n W := by
  intro u v a b c d hh
  obtain ⟨S, -, h2⟩ := h u v a b c d hh
  have h3 := mm_cnt_le S m.toNat
  have h4 : (mm_cnt S m.toNat : Int) + 1 ≤ 17 := by omega
  have h5 : K * ((mm_cnt S m.toNat : Int) + 1) ≤ 1000 * 17 := Int.mul_le_mul hK.2 h4 (by omega) (by omega)
  have h6 : -K * ((mm_cnt S m.toNat : Int) + 1) = -(K * ((mm_cnt S m.toNat : Int) + 1)) := Int.neg_mul _ _
  omega
theorem mm_ph_wit {n m K : Int} {W : Int → Int → Int} (hK : 0 ≤ K ∧ K ≤ 1000) (hm : 0 ≤ m ∧ m < n) (hn : n ≤ 16) (hc : mm_clo n m W) (h : mm_wit n m K W) : mm_wit n (m + 1) K (mm_ph m W) := by
  have hl := mm_wit_low hK ⟨hm.1, by omega⟩ h
  have em : (m + 1).toNat = m.toNat + 1 := by omega
  have ec : ((m.toNat : Nat) : Int) = m := Int.toNat_of_nonneg hm.1
  intro u v a b c d hh
  by_cases q : mm_has W u v
  · obtain ⟨S, s1, s2⟩ := h u v a b c d q
    refine ⟨S, fun k hk => ?_, ?_⟩
    · obtain ⟨x1, x2, x3, x4⟩ := s1 k hk
      exact ⟨x1, by omega, mm_ph_has x3, mm_ph_has x4⟩
    · have e : mm_cnt S (m + 1).toNat = mm_cnt S m.toNat := by
        rw [em]
        show mm_cnt S m.toNat + _ = _
        rw [if_neg (fun z => by have := (s1 _ z).2.1; omega)]
        rfl
      rw [e]
      have := @mm_ph_ge m u v W
      omega
  · obtain ⟨q1, q2⟩ := (mm_ph_old hh).resolve_left q
    obtain ⟨S1, s1, s2⟩ := h u m a b hm.1 hm.2 q1
    obtain ⟨S2, t1, t2⟩ := h m v hm.1 hm.2 c d q2
    refine ⟨fun k => (S1 k ∨ S2 k) ∨ k = m, fun k hk => ?_, ?_⟩
    · rcases hk with (hk | hk) | hk
      · obtain ⟨x1, x2, x3, x4⟩ := s1 k hk
        exact ⟨x1, by omega, mm_ph_has x3, mm_ph_new hm hl ⟨x1, by omega⟩ ⟨c, d⟩ x4 q2⟩
      · obtain ⟨x1, x2, x3, x4⟩ := t1 k hk
        exact ⟨x1, by omega, mm_ph_new hm hl ⟨a, b⟩ ⟨x1, by omega⟩ q1 x3, mm_ph_has x4⟩
      · subst hk
        exact ⟨hm.1, by omega, mm_ph_has q1, mm_ph_has q2⟩
    · have e1 : mm_cnt (fun k => S1 k ∨ S2 k) m.toNat = mm_cnt S1 m.toNat + mm_cnt S2 m.toNat := mm_cnt_or m.toNat fun k k1 k2 z => by
        obtain ⟨x1, x2, x3, x4⟩ := s1 k z.1
        obtain ⟨y1, y2, y3, y4⟩ := t1 k z.2
        exact q (hc u v k a b c d x1 x2 x3 y4).1
      have e2 : mm_cnt (fun k => (S1 k ∨ S2 k) ∨ k = m) m.toNat = mm_cnt (fun k => S1 k ∨ S2 k) m.toNat := mm_cnt_ext m.toNat fun k k1 k2 => ⟨fun z => z.elim (fun w => w) (fun w => by omega), Or.inl⟩
      have e3 : mm_cnt (fun k => (S1 k ∨ S2 k) ∨ k = m) (m + 1).toNat = mm_cnt S1 m.toNat + mm_cnt S2 m.toNat + 1 := by
        rw [em]
        show mm_cnt (fun k => (S1 k ∨ S2 k) ∨ k = m) m.toNat + _ = _
        rw [if_pos (Or.inr ec), e2, e1]
      rw [e3, mm_ph_pos ⟨q1, q2⟩]
      have e4 : -K * (((mm_cnt S1 m.toNat + mm_cnt S2 m.toNat + 1 : Nat) : Int) + 1) = -K * ((mm_cnt S1 m.toNat : Int) + 1) + -K * ((mm_cnt S2 m.toNat : Int) + 1) := by
        rw [← Int.mul_add]
        congr 1
        omega
      rw [e4]
      omega
theorem mm_wit_0 {n K : Int} {W : Int → Int → Int} (h : ∀ u v, 0 ≤ u → u < n → 0 ≤ v → v < n → mm_has W u v → -K ≤ W u v) : mm_wit n 0 K W := by
  intro u v a b c d hh
  refine ⟨fun _ => False, fun k hk => hk.elim, ?_⟩
  have := h u v a b c d hh
  show -K * (((0 : Nat) : Int) + 1) ≤ W u v
  omega
theorem mm_clo_0 {n : Int} {W : Int → Int → Int} : mm_clo n 0 W := fun u v k _ _ _ _ e f => by omega
/-- a ring above 0: no solution -/
theorem mm_ring {n m v : Int} {eA eB eW f : Int → Int} {W : Int → Int → Int} (hv : 0 ≤ v ∧ v < n) (hs : mm_snd n W f) (h : 0 < W v v) : ¬ mm_Sol n m eA eB eW f := by
  intro _
  have := hs v v hv.1 hv.2 hv.1 hv.2 (by unfold mm_has; omega)
  omega
/-! pushing: one edge, a pass -/
noncomputable def mm_rx (n : Int) (eA eB eW : Int → Int) (e : Int) (P : Int → Int) : Int → Int := fun v => @ite Int (mm_on n eA eB e ∧ v = eB e ∧ P (eB e) < P (eA e) + eW e) (Classical.propDecidable _) (P (eA e) + eW e) (P v)
theorem mm_rx_ge {n : Int} {eA eB eW P : Int → Int} {e v : Int} : P v ≤ mm_rx n eA eB eW e P v := by
  unfold mm_rx
  split
  · rename_i h
    rw [h.2.1]
    omega
  · omega
theorem mm_rx_le {n m : Int} {eA eB eW P f : Int → Int} {e : Int} (hE : mm_ends m eA eB) (he : 0 ≤ e ∧ e < m) (hf : mm_Sol n m eA eB eW f) (h : ∀ v, 0 ≤ v → v < n → P v ≤ f v) : ∀ v, 0 ≤ v → v < n → mm_rx n eA eB eW e P v ≤ f v := by
  intro v a b
  unfold mm_rx
  split
  · rename_i q
    have h1 := hf.2 e he.1 he.2 q.1
    have h2 := h (eA e) (hE e he.1 he.2).1 q.1.1
    rw [q.2.1]
    omega
  · exact h v a b
theorem mm_rx_edge {n : Int} {eA eB eW P : Int → Int} {e : Int} (h : mm_on n eA eB e) : P (eA e) + eW e ≤ mm_rx n eA eB eW e P (eB e) := by
  unfold mm_rx
  split
  · omega
  · rename_i q
    have : ¬ P (eB e) < P (eA e) + eW e := fun z => q ⟨h, rfl, z⟩
    omega
