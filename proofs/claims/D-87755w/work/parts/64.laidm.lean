/-! THE LAID RUN in places that go round: what holds of places, names and refusals -/
set_option maxRecDepth 100000
def mV (S : jx_M) : Prop := S 0 27 ≠ 0 → ∀ a, 0 ≤ a → a < S 0 9 → S 25 a ≤ 900
theorem rp_H_of {S : jx_M} (hW : mW S) (c : S 0 27 ≠ 0) : rp_H S := by
  have hB := hW.1
  have hl := hW.2.2.1 c
  have hb := hW.2.1
  have h26 : ∀ a, 0 ≤ a → a < S 0 9 → 0 ≤ S 26 a := fun a a0 a1 => by
    have := hl.2.1 a a0 a1
    have := Int.mul_nonneg hb.1 this.2.1.1
    omega
  have edge : ∀ b, 0 ≤ b → b < S 0 9 → ∀ a' b' t d, me_b S b a' b' t d → S 26 a' + t ≤ S 26 b' + S 0 27 * d := fun b b0 b1 a' b' t d h => hl.2.2 a' b' t d (.inl ⟨b, b0, b1, h⟩)
  refine ⟨by omega, hB.1, hW.2.2.2.2.2.1, fun a a0 a1 => ⟨mB_act hB a0 a1, h26 a a0 a1⟩, fun a k a0 a1 k0 k1 ok => ?_, fun a b a0 ab b1 ra rb e o => ?_, fun a b a0 a1 b0 b1 s r n => ?_⟩
  · have wh := hl.1.2 (3 * a + k) (by omega) (by omega)
    have nk := hB.2.2.2.1 a k a0 a1 k0 k1
    have c1 : k < mm_nop (S 1 a) := by
      apply Classical.byContradiction
      intro z
      have := nk.2 (by omega)
      have := ok.1
      omega
    have := edge a a0 a1 _ _ _ _ (.inl ⟨3 * a + k, by omega, by omega, ⟨ok.1.1, wh⟩, rfl, rfl, rfl, rfl⟩)
    have lg := (hB.2.2.1 _ ok.1.1 wh).2.1
    exact ⟨wh, by omega, (nk.1 c1).2.2⟩
  · have e1 := edge b (by omega) b1 a b 1 0 (.inr (.inr ⟨a, a0, by omega, .inl ⟨⟨ab, ra, rb, e, o⟩, .inl ⟨rfl, rfl, rfl, rfl⟩⟩⟩))
    have e2 := edge b (by omega) b1 b a 1 1 (.inr (.inr ⟨a, a0, by omega, .inl ⟨⟨ab, ra, rb, e, o⟩, .inr ⟨rfl, rfl, rfl, rfl⟩⟩⟩))
    omega
  · have bh : me_bh S a b := ⟨s, n, r⟩
    have e2 := edge b b0 b1 a b 1 1 (.inr (.inr ⟨a, a0, a1, .inr ⟨bh, .inr ⟨rfl, rfl, rfl, rfl⟩⟩⟩))
    refine ⟨fun z => ?_, by omega⟩
    have e1 := edge b b0 b1 a b 1 0 (.inr (.inr ⟨a, a0, a1, .inr ⟨bh, .inl ⟨z, rfl, rfl, rfl, rfl⟩⟩⟩))
    omega
theorem mm_life_ge {S : jx_M} {a : Int} : ∀ (n k : Nat), k < n → S 6 k = a → S 26 ((k : Int) / 3) + S 0 27 * S 7 k - S 26 a ≤ mm_life S a n
  | 0, k, h, _ => by omega
  | n + 1, k, h, e => by
    rw [mm_life_s]
    by_cases c : k = n
    · subst c
      rw [if_pos e]
      omega
    · have := mm_life_ge n k (by omega) e
      split <;> omega
theorem mm_life_le2 {S : jx_M} {a L m : Int} (hL : 0 ≤ L) (h : ∀ k : Nat, (k : Int) < m → S 6 k = a → S 26 ((k : Int) / 3) + S 0 27 * S 7 k - S 26 a ≤ L) : ∀ n : Nat, (n : Int) ≤ m → 0 ≤ mm_life S a n ∧ mm_life S a n ≤ L
  | 0, _ => ⟨Int.le_refl _, hL⟩
  | n + 1, hn => by
    have ih := mm_life_le2 hL h n (by omega)
    rw [mm_life_s]
    split
    · rename_i c
      have := h n (by omega) c
      omega
    · exact ih
/-- how many places: a reader comes before the place is taken anew -/
theorem mm_places_V {S : jx_M} {a : Int} (hW : mW S) (hV : mV S) (c : S 0 27 ≠ 0) (a0 : 0 ≤ a) (a1 : a < S 0 9) : 1 ≤ mm_places S a ∧ mm_places S a ≤ 1000 := by
  have hB := hW.1
  have hl := hW.2.2.1 c
  have hb := hW.2.1
  have hv := hV c
  have up : ∀ b, 0 ≤ b → b < S 0 9 → 0 ≤ S 26 b ∧ S 26 b ≤ S 0 27 * 901 := fun b b0 b1 => by
    have q := hl.2.1 b b0 b1
    have := Int.mul_nonneg hb.1 q.2.1.1
    have := Int.mul_le_mul_of_nonneg_left (hv b b0 b1) hb.1
    omega
  have L := mm_life_le2 (S := S) (a := a) (L := S 0 27 * 905) (m := 3 * S 0 9) (by omega) (fun k k1 e => by
    have o := mB_op hB (show (0 : Int) ≤ k by omega) k1
    have u := up ((k : Int) / 3) (by omega) (by omega)
    have ua := up a a0 a1
    have s7 : S 7 k ≤ 4 := by omega
    have := Int.mul_le_mul_of_nonneg_left s7 hb.1
    omega) (3 * S 0 9).toNat (by omega)
  unfold mm_places
  have p := Int.ediv_nonneg L.1 hb.1
  have q : mm_life S a (3 * S 0 9).toNat / S 0 27 ≤ 905 := by
    apply Int.ediv_le_of_le_mul (by omega)
    have := L.2
    omega
  omega
theorem mm_places_g {S : jx_M} {b i : Int} (hB : mB S) (hb : 1 ≤ S 0 27) (b0 : 0 ≤ b) (b1 : b < S 0 9) (i0 : 0 ≤ i) (i1 : i < 3) : S 26 b + S 0 27 * S 7 (3 * b + i) < S 26 (S 6 (3 * b + i)) + S 0 27 * mm_places S (S 6 (3 * b + i)) := by
  have h := mm_life_ge (S := S) (a := S 6 (3 * b + i)) (3 * S 0 9).toNat (3 * b + i).toNat (by omega) (by rw [show (((3 * b + i).toNat : Nat) : Int) = 3 * b + i by omega])
  rw [show (((3 * b + i).toNat : Nat) : Int) = 3 * b + i by omega, show (3 * b + i) / 3 = b by omega] at h
  unfold mm_places
  have e := Int.mul_ediv_add_emod (mm_life S (S 6 (3 * b + i)) (3 * S 0 9).toNat) (S 0 27)
  have l := Int.emod_lt_of_pos (mm_life S (S 6 (3 * b + i)) (3 * S 0 9).toNat) (show 0 < S 0 27 by omega)
  rw [Int.mul_add, Int.mul_one]
  omega
/-! which events have been -/
def xX (S : jx_M) (now a k τ : Int) : Prop := S 26 k + S 0 27 * τ < now ∨ (S 26 k + S 0 27 * τ = now ∧ k < a)
def xL (x : Int) (S Q M' : jx_M) (n now a lim : Int) : Prop := ∀ k τ, 0 ≤ k → k < S 0 9 → 0 ≤ τ → τ < n → 16 * τ + k < lim → xX S now a k τ →
  M' (x + 43) (16 * τ + k) = Q 32 (16 * τ + k) ∧ (¬ xX S now a k (τ + mm_places S k) → M' (x + 44) (1000 * k + τ % mm_places S k) = Q 32 (16 * τ + k))
def xD (S : jx_M) (now a lim k : Int) : Prop := ∃ τ, 0 ≤ τ ∧ xX S now a k τ ∧ lim ≤ 16 * τ + k
theorem xX_mono {S : jx_M} {now a k τ : Int} (h : xX S now a k τ) : xX S now (a + 1) k τ := by
  unfold xX at h ⊢
  omega
theorem xX_new {S : jx_M} {now a k τ : Int} (h : xX S now (a + 1) k τ) : xX S now a k τ ∨ (k = a ∧ S 26 a + S 0 27 * τ = now) := by
  unfold xX at h ⊢
  by_cases c : k = a
  · subst c; omega
  · omega
theorem xX_row {S : jx_M} {now a k τ : Int} (hk : k < a) (k0 : 0 ≤ k) : xX S (now + 1) 0 k τ ↔ xX S now a k τ := by
  unfold xX
  omega
theorem xB_lt {B t τ : Int} (hB : 1 ≤ B) : B * τ < B * t ↔ τ < t := ⟨fun h => by
    apply Classical.byContradiction
    intro z
    have := Int.mul_le_mul_of_nonneg_left (show t ≤ τ by omega) (show 0 ≤ B by omega)
    omega, fun h => by
    have := mul_step hB (show τ + 1 ≤ t by omega)
    omega⟩
theorem xB_eq {B t τ : Int} (hB : 1 ≤ B) (h : B * τ = B * t) : τ = t := by
  have a := xB_lt (t := t) (τ := τ) hB
  have b := xB_lt (t := τ) (τ := t) hB
  omega
theorem xL_skip {x n now a lim : Int} {S Q M' : jx_M} (h : xL x S Q M' n now a lim) (hs : ∀ τ, 0 ≤ τ → S 26 a + S 0 27 * τ = now → τ < n → lim ≤ 16 * τ + a) : xL x S Q M' n now (a + 1) lim := by
  intro k τ k0 k1 t0 t1 hl hx
  rcases xX_new hx with z | ⟨z1, z2⟩
  · have := h k τ k0 k1 t0 t1 hl z
    exact ⟨this.1, fun w => this.2 (fun u => w (xX_mono u))⟩
  · subst z1
    have := hs τ t0 z2 t1
    omega
theorem xL_row {x n now lim : Int} {S Q M' : jx_M} (h : xL x S Q M' n now (S 0 9) lim) : xL x S Q M' n (now + 1) 0 lim := by
  intro k τ k0 k1 t0 t1 hl hx
  rw [xX_row k1 k0] at hx ⊢
  exact h k τ k0 k1 t0 t1 hl hx
theorem xL_c {x n now a lim : Int} {S Q Q' M' M2 : jx_M} (h : xL x S Q M' n now a lim) (hq : ∀ j, Q' 32 j = Q 32 j) (h1 : ∀ j, M2 (x + 43) j = M' (x + 43) j) (h2 : ∀ j, M2 (x + 44) j = M' (x + 44) j) : xL x S Q' M2 n now a lim := by
  intro k τ k0 k1 t0 t1 hl hx
  rw [h1, h2, hq]
  exact h k τ k0 k1 t0 t1 hl hx
/-- one event -/
theorem xL_do {x n now a t lim lim' : Int} {S Q Q2 M' M2 : jx_M} (hb : 1 ≤ S 0 27) (h9 : S 0 9 ≤ 16) (pl : ∀ k, 0 ≤ k → k < S 0 9 → 1 ≤ mm_places S k ∧ mm_places S k ≤ 1000) (ha : 0 ≤ a ∧ a < S 0 9) (ht : 0 ≤ t ∧ S 26 a + S 0 27 * t = now) (h : xL x S Q M' n now a lim) (hl : lim' ≤ lim)
    (hq : ∀ j, j ≠ 16 * t + a → Q2 32 j = Q 32 j) (h1 : ∀ j, j ≠ 16 * t + a → M2 (x + 43) j = M' (x + 43) j) (h2 : ∀ j, j ≠ 1000 * a + t % mm_places S a → M2 (x + 44) j = M' (x + 44) j)
    (hn : lim' = 16 * t + a ∨ (M2 (x + 43) (16 * t + a) = Q2 32 (16 * t + a) ∧ M2 (x + 44) (1000 * a + t % mm_places S a) = Q2 32 (16 * t + a))) : xL x S Q2 M2 n now (a + 1) lim' := by
  intro k τ k0 k1 t0 t1 hl2 hx
  have pk := pl k k0 k1
  have pa := pl a ha.1 ha.2
  have ma := Int.emod_lt_of_pos t (show 0 < mm_places S a by omega)
  have ma0 := Int.emod_nonneg t (show mm_places S a ≠ 0 by omega)
  have mk := Int.emod_lt_of_pos τ (show 0 < mm_places S k by omega)
  have mk0 := Int.emod_nonneg τ (show mm_places S k ≠ 0 by omega)
  by_cases c : k = a ∧ τ = t
  · obtain ⟨rfl, rfl⟩ := c
    rcases hn with z | z
    · omega
    · exact ⟨z.1, fun _ => z.2⟩
  · have ne : 16 * τ + k ≠ 16 * t + a := by omega
    have old : xX S now a k τ := by
      rcases xX_new hx with z | ⟨z1, z2⟩
      · exact z
      · subst z1
        exact absurd ⟨rfl, xB_eq hb (by omega)⟩ c
    have o := h k τ k0 k1 t0 t1 (by omega) old
    rw [h1 _ ne, hq _ ne]
    refine ⟨o.1, fun w => ?_⟩
    have w2 : ¬ xX S now a k (τ + mm_places S k) := fun u => w (xX_mono u)
    rw [h2]
    · exact o.2 w2
    · by_cases ka : k = a
      · subst ka
        -- the same act: τ < t < τ + names
        unfold xX at w old
        have l1 : τ < t := (xB_lt hb).mp (by omega)
        have l2 : t < τ + mm_places S k := by
          apply Classical.byContradiction
          intro z
          have : ¬ S 0 27 * t < S 0 27 * (τ + mm_places S k) := fun y => z ((xB_lt hb).mp y)
          omega
        intro e
        have e1 : τ % mm_places S k = t % mm_places S k := by omega
        have d1 := Int.mul_ediv_add_emod τ (mm_places S k)
        have d2 := Int.mul_ediv_add_emod t (mm_places S k)
        have e3 : mm_places S k * (τ / mm_places S k) < mm_places S k * (t / mm_places S k) := by omega
        have e4 := (xB_lt pk.1).mp e3
        have := mul_step pk.1 (show τ / mm_places S k + 1 ≤ t / mm_places S k by omega)
        omega
      · omega
/-- what an act reads -/
theorem xL_rd {x n now a t lim i : Int} {S Q M' : jx_M} (H : rp_H S) (hB : mB S) (ha : 0 ≤ a ∧ a < S 0 9) (ht : (0 ≤ t ∧ t < n) ∧ S 26 a + S 0 27 * t = now) (hl : 16 * t + a < lim) (h : xL x S Q M' n now a lim) (i0 : 0 ≤ i) (i1 : i < 3) (ok : mm_ok1 S a i) (hd : 0 ≤ t - S 7 (3 * a + i)) :
    M' (x + 44) (1000 * S 6 (3 * a + i) + (t - S 7 (3 * a + i)) % mm_places S (S 6 (3 * a + i))) = Q 32 (16 * (t - S 7 (3 * a + i)) + S 6 (3 * a + i)) := by
  have o := H.2.2.2.2.1 a i ha.1 ha.2 i0 i1 ok
  have g := mm_places_g hB H.1 ha.1 ha.2 i0 i1
  have e1 : S 0 27 * (t - S 7 (3 * a + i)) = S 0 27 * t - S 0 27 * S 7 (3 * a + i) := Int.mul_sub _ _ _
  have e2 : S 0 27 * (t - S 7 (3 * a + i) + mm_places S (S 6 (3 * a + i))) = S 0 27 * t - S 0 27 * S 7 (3 * a + i) + S 0 27 * mm_places S (S 6 (3 * a + i)) := by rw [Int.mul_add, e1]
  have h9 := H.2.1
  have k1 := ok.1
  have k2 := ok.2
  refine (h (S 6 (3 * a + i)) (t - S 7 (3 * a + i)) k1.1 o.1 hd (by omega) ?_ ?_).2 ?_
  · by_cases c : S 7 (3 * a + i) = 0
    · have := o.2.2 c
      omega
    · omega
  · left
    rw [e1]
    omega
  · unfold xX
    rw [e2]
    omega
/-! refusals -/
theorem xD_skip {S : jx_M} {now a lim : Int} {c : Nat} (h : c ≤ mm_cnt (xD S now a lim) (S 0 9).toNat) : c ≤ mm_cnt (xD S now (a + 1) lim) (S 0 9).toNat :=
  Nat.le_trans h (mm_cnt_mono _ (fun v _ _ ⟨τ, z1, z2, z3⟩ => ⟨τ, z1, xX_mono z2, z3⟩))
theorem xD_row {S : jx_M} {now lim : Int} {c : Nat} (h : c ≤ mm_cnt (xD S now (S 0 9) lim) (S 0 9).toNat) : c ≤ mm_cnt (xD S (now + 1) 0 lim) (S 0 9).toNat :=
  Nat.le_trans h (mm_cnt_mono _ (fun v v0 v1 ⟨τ, z1, z2, z3⟩ => ⟨τ, z1, (xX_row (by omega) v0).mpr z2, z3⟩))
theorem xD_do {S : jx_M} {now a t lim : Int} {c : Nat} (hb : 1 ≤ S 0 27) (ha : 0 ≤ a ∧ a < S 0 9) (ht : 0 ≤ t ∧ S 26 a + S 0 27 * t = now) (hl : 16 * t + a < lim) (h : c ≤ mm_cnt (xD S now a lim) (S 0 9).toNat) : c + 1 ≤ mm_cnt (xD S now (a + 1) (16 * t + a)) (S 0 9).toNat := by
  refine Nat.succ_le_of_lt (Nat.lt_of_le_of_lt h (mm_cnt_lt _ (fun v _ _ ⟨τ, z1, z2, z3⟩ => ⟨τ, z1, xX_mono z2, by omega⟩) ⟨a, ha.1, by omega, ⟨t, ht.1, .inr ⟨ht.2, by omega⟩, by omega⟩, fun ⟨τ, z1, z2, z3⟩ => ?_⟩))
  unfold xX at z2
  have := (xB_lt (t := t) (τ := τ) hb).mp (by omega)
  omega
