/-! WHAT LoopLane's memory holds of the abstract state -/
set_option maxRecDepth 100000
/-- an act that stands -/
def rA (x : Int) (S : jx_M) (g : jx_S) (M : jx_M) (a : Int) : Prop := (0 ≤ S 1 a ∧ S 1 a ≤ 6) ∧ M (x + 13) a = x + 61 + 21 * a + 3 * S 1 a ∧ (((g.2 (M (x + 13) a)).1 : Int) = 66 + S 1 a ∧ (g.2 (M (x + 13) a)).2 = 0) ∧
  M (M (x + 13) a) 0 = S 2 a ∧ M (M (x + 13) a) 1 = S 3 a ∧ M (M (x + 13) a) 2 = S 4 a ∧ M (M (x + 13) a) 3 = S 8 a ∧ M (M (x + 13) a) 4 = mm_nop (S 1 a) ∧
  (∀ i, 0 ≤ i → i < mm_nop (S 1 a) → M (M (x + 13) a + 1) i = S 6 (3 * a + i) ∧ M (M (x + 13) a + 2) i = S 7 (3 * a + i)) ∧ (S 1 a = 0 → M (M (x + 13) a) 7 = S 9 a) ∧ ((S 1 a = 4 ∨ S 1 a = 5) → M (M (x + 13) a) 7 = S 5 a)
/-- the acts' cells; rows lie behind -/
def rSh (x : Int) (g : jx_S) : Prop := 0 ≤ x ∧ (x + 430 ≤ (g.1 : Int) ∧ ∀ k, 1 ≤ k → k ≤ 11 → g.2 (x + 49 + k) = (64, 0)) ∧ ∀ a q, 0 ≤ a → a < 16 → 0 ≤ q → q < 7 → ((g.2 (x + 61 + 21 * a + 3 * q)).1 : Int) = 66 + q ∧ (g.2 (x + 61 + 21 * a + 3 * q)).2 = 0
def rBd (x : Int) (S : jx_M) (g : jx_S) (M : jx_M) : Prop := M x 5 = S 0 9 ∧ M x 18 = S 0 15 ∧ (∀ a, 0 ≤ a → a < S 0 9 → rA x S g M a) ∧ (∀ k, 0 ≤ k → k < 6 → M (x + 21) k = S 10 k) ∧
  ∀ e, 0 ≤ e → e < S 0 15 → M (x + 22) e = S 11 e ∧ M (x + 23) e = S 12 e ∧ M (x + 24) e = S 13 e ∧ M (x + 25) e = S 14 e
def rEd (x : Int) (S : jx_M) (M : jx_M) : Prop := M x 23 = me_n S + S 0 15 ∧ M x 24 = me_n S ∧ mm_EO (me_all S) (M (x + 26)) (M (x + 27)) (M (x + 28)) (M (x + 29)) (M x 23)
def rLd (x : Int) (S : jx_M) (M : jx_M) : Prop := M x 25 = (if S 0 27 = 0 then 0 else 1) ∧ (S 0 27 ≠ 0 → M x 26 = S 0 27 ∧ ∀ a, 0 ≤ a → a < S 0 9 → M (x + 30) a = S 24 a ∧ M (x + 31) a = S 25 a ∧ M (x + 32) a = S 27 a)
def rRs (x : Int) (S : jx_M) (M : jx_M) : Prop := (M (x + 37) 0 = S 0 38 ∧ M (x + 37) 1 = S 0 39 ∧ M (x + 37) 2 = S 0 40 ∧ M (x + 37) 3 = S 0 41 ∧ M (x + 37) 4 = S 0 42 ∧ M (x + 37) 5 = S 0 43 ∧ M (x + 37) 6 = S 0 44) ∧
  (0 < S 0 44 → ∀ a, 0 ≤ a → a < S 0 9 → M (x + 38) a = S 32 (16 * (S 0 44 - 1) + a))
def rMs (x : Int) (S : jx_M) (M : jx_M) : Prop := M x 34 = S 0 32 ∧ M x 2 = (if S 0 26 = 0 then -1 else x + 49 - S 0 26) ∧ (∀ k, 1 ≤ k → k ≤ 11 → M (x + 2) k = S 23 k) ∧ (∀ k, 0 ≤ k → k < 6 → M (x + 49) k = S 31 k) ∧ ∀ k, 1 ≤ k → k ≤ 11 → M (x + 49 + k) 6 = -k
/-- a slot -/
def rS1 (x : Int) (S : jx_M) (g : jx_S) (M : jx_M) (s : Int) : Prop := (S 21 s = 0 → M (x + 5 + s) 0 = -1) ∧
  (S 21 s ≠ 0 → (x + 430 ≤ M (x + 5 + s) 0 ∧ M (x + 5 + s) 0 < (g.1 : Int)) ∧ (S 22 s ≠ 0 → g.2 (M (x + 5 + s) 0) = (11, S 21 s) ∧ ∀ i, 0 ≤ i → i < S 21 s → M (M (x + 5 + s) 0) i = S 19 (40 * s + i)) ∧ (S 22 s = 0 → g.2 (M (x + 5 + s) 0) = (10, S 21 s)))
def rSl (x : Int) (S : jx_M) (g : jx_S) (M : jx_M) : Prop := (∀ s, 0 ≤ s → s < 8 → rS1 x S g M s) ∧ ∀ s t, 0 ≤ s → s < 8 → 0 ≤ t → t < 8 → s ≠ t → S 21 s ≠ 0 → S 21 t ≠ 0 → M (x + 5 + s) 0 ≠ M (x + 5 + t) 0
def rR (x : Int) (S : jx_M) (g : jx_S) (M : jx_M) : Prop := rSh x g ∧ rBd x S g M ∧ rEd x S M ∧ rLd x S M ∧ rRs x S M ∧ rMs x S M ∧ rSl x S g M
/-- what a call leaves alone; cells are added -/
def rG (g g' : jx_S) : Prop := g.1 ≤ g'.1 ∧ ∀ z : Int, z < (g.1 : Int) → g'.2 z = g.2 z
def rFr (x : Int) (g : jx_S) (M : jx_M) (g' : jx_S) (M' : jx_M) : Prop := rG g g' ∧ ∀ z i : Int, (z < x ∨ (x + 397 ≤ z ∧ z < x + 430)) → M' z i = M z i
def rK (x : Int) (g : jx_S) (M : jx_M) (Po : jx_Po) (t : Nat) : Int → jx_M → Prop := fun r S' => ∀ g' M', rR x S' g' M' → rFr x g M g' M' → Po (t, 0, r) g' M'
/-! well-formed states -/
def mWl (S : jx_M) : Prop := (1 ≤ S 0 9 ∧ mm_whole S) ∧ (∀ a, 0 ≤ a → a < S 0 9 → (0 ≤ S 24 a ∧ S 24 a < S 0 27) ∧ (0 ≤ S 25 a ∧ S 25 a ≤ 1000) ∧ S 26 a = S 0 27 * S 25 a + S 24 a ∧ (0 ≤ S 27 a ∧ S 27 a ≤ 100000)) ∧
  ∀ a b t d, me_all S a b t d → S 26 a + t ≤ S 26 b + S 0 27 * d
def mW (S : jx_M) : Prop := mB S ∧ (0 ≤ S 0 27 ∧ S 0 27 ≤ 60) ∧ (S 0 27 ≠ 0 → mWl S) ∧ (0 ≤ S 0 44 ∧ S 0 44 ≤ 200) ∧ (-11 ≤ S 0 26 ∧ S 0 26 ≤ 0) ∧ mm_rows S ∧ (S 0 43 = 0 ∨ S 0 43 = 1)
/-! what each part looks at -/
def qBd (x z k : Int) : Prop := (z = x ∧ (k = 5 ∨ k = 18)) ∨ z = x + 13 ∨ (x + 21 ≤ z ∧ z ≤ x + 25) ∨ (x + 61 ≤ z ∧ z < x + 397)
def qEd (x z k : Int) : Prop := (z = x ∧ (k = 23 ∨ k = 24)) ∨ (x + 26 ≤ z ∧ z ≤ x + 29)
def qLd (x z k : Int) : Prop := (z = x ∧ (k = 25 ∨ k = 26)) ∨ (x + 30 ≤ z ∧ z ≤ x + 32)
def qRs (x z : Int) : Prop := z = x + 37 ∨ z = x + 38
def qMs (x z k : Int) : Prop := (z = x ∧ (k = 34 ∨ k = 2)) ∨ z = x + 2 ∨ (x + 49 ≤ z ∧ z ≤ x + 60)
def qSl (x z : Int) : Prop := (x + 5 ≤ z ∧ z ≤ x + 12) ∨ x + 430 ≤ z
section RC
variable {x : Int} {S : jx_M} {g g' : jx_S} {M M' : jx_M}
theorem rA_ad {a : Int} (h : rA x S g M a) (a0 : 0 ≤ a) (a1 : a < 16) : x + 61 ≤ M (x + 13) a ∧ M (x + 13) a + 2 < x + 397 := by have := h.1; have := h.2.1; omega
theorem rA_c {a : Int} (h : rA x S g M a) (a0 : 0 ≤ a) (a1 : a < 16) (h1 : M' (x + 13) a = M (x + 13) a) (hM : ∀ z k, x + 61 ≤ z → z < x + 397 → M' z k = M z k) : rA x S g M' a := by
  have ad := rA_ad h a0 a1
  have e : ∀ z k, z = M (x + 13) a ∨ z = M (x + 13) a + 1 ∨ z = M (x + 13) a + 2 → M' z k = M z k := fun z k q => hM z k (by omega) (by omega)
  unfold rA at h ⊢
  rw [h1, e _ 0 (.inl rfl), e _ 1 (.inl rfl), e _ 2 (.inl rfl), e _ 3 (.inl rfl), e _ 4 (.inl rfl), e _ 7 (.inl rfl)]
  refine ⟨h.1, h.2.1, h.2.2.1, h.2.2.2.1, h.2.2.2.2.1, h.2.2.2.2.2.1, h.2.2.2.2.2.2.1, h.2.2.2.2.2.2.2.1, fun i i0 i1 => ?_, h.2.2.2.2.2.2.2.2.2⟩
  rw [e _ i (.inr (.inl rfl)), e _ i (.inr (.inr rfl))]
  exact h.2.2.2.2.2.2.2.2.1 i i0 i1
theorem rBd_c (hS : S 0 9 ≤ 16) (h : rBd x S g M) (hM : ∀ z k, qBd x z k → M' z k = M z k) : rBd x S g M' := by
  unfold rBd at h ⊢
  rw [hM x 5 (.inl ⟨rfl, .inl rfl⟩), hM x 18 (.inl ⟨rfl, .inr rfl⟩)]
  refine ⟨h.1, h.2.1, fun a a0 a1 => rA_c (h.2.2.1 a a0 a1) a0 (by omega) (hM _ _ (.inr (.inl rfl))) (fun z k q1 q2 => hM z k (.inr (.inr (.inr ⟨q1, q2⟩)))), fun k k0 k1 => ?_, fun e e0 e1 => ?_⟩
  · rw [hM _ k (.inr (.inr (.inl ⟨by omega, by omega⟩)))]; exact h.2.2.2.1 k k0 k1
  · rw [hM _ e (.inr (.inr (.inl ⟨by omega, by omega⟩))), hM (x + 23) e (.inr (.inr (.inl ⟨by omega, by omega⟩))), hM (x + 24) e (.inr (.inr (.inl ⟨by omega, by omega⟩))), hM (x + 25) e (.inr (.inr (.inl ⟨by omega, by omega⟩)))]
    exact h.2.2.2.2 e e0 e1
theorem rEd_c (h : rEd x S M) (hM : ∀ z k, qEd x z k → M' z k = M z k) : rEd x S M' := by
  have e : ∀ j, 26 ≤ j → j ≤ 29 → M' (x + j) = M (x + j) := fun j a b => funext fun k => hM _ _ (.inr ⟨by omega, by omega⟩)
  unfold rEd at h ⊢
  rw [hM x 23 (.inl ⟨rfl, .inl rfl⟩), hM x 24 (.inl ⟨rfl, .inr rfl⟩), e 26 (by decide) (by decide), e 27 (by decide) (by decide), e 28 (by decide) (by decide), e 29 (by decide) (by decide)]
  exact h
theorem rLd_c (h : rLd x S M) (hM : ∀ z k, qLd x z k → M' z k = M z k) : rLd x S M' := by
  unfold rLd at h ⊢
  rw [hM x 25 (.inl ⟨rfl, .inl rfl⟩), hM x 26 (.inl ⟨rfl, .inr rfl⟩)]
  refine ⟨h.1, fun c => ⟨(h.2 c).1, fun a a0 a1 => ?_⟩⟩
  rw [hM (x + 30) a (.inr ⟨by omega, by omega⟩), hM (x + 31) a (.inr ⟨by omega, by omega⟩), hM (x + 32) a (.inr ⟨by omega, by omega⟩)]
  exact (h.2 c).2 a a0 a1
theorem rRs_c (h : rRs x S M) (hM : ∀ z k, qRs x z → M' z k = M z k) : rRs x S M' := by
  unfold rRs at h ⊢
  rw [hM (x + 37) 0 (.inl rfl), hM (x + 37) 1 (.inl rfl), hM (x + 37) 2 (.inl rfl), hM (x + 37) 3 (.inl rfl), hM (x + 37) 4 (.inl rfl), hM (x + 37) 5 (.inl rfl), hM (x + 37) 6 (.inl rfl)]
  refine ⟨h.1, fun c a a0 a1 => ?_⟩
  rw [hM (x + 38) a (.inr rfl)]
  exact h.2 c a a0 a1
theorem rMs_c (h : rMs x S M) (hM : ∀ z k, qMs x z k → M' z k = M z k) : rMs x S M' := by
  unfold rMs at h ⊢
  rw [hM x 34 (.inl ⟨rfl, .inl rfl⟩), hM x 2 (.inl ⟨rfl, .inr rfl⟩)]
  refine ⟨h.1, h.2.1, fun k a b => ?_, fun k a b => ?_, fun k a b => ?_⟩
  · rw [hM _ k (.inr (.inl rfl))]; exact h.2.2.1 k a b
  · rw [hM _ k (.inr (.inr (by omega)))]; exact h.2.2.2.1 k a b
  · rw [hM _ 6 (.inr (.inr (by omega)))]; exact h.2.2.2.2 k a b
theorem rSl_c (h : rSl x S g M) (hM : ∀ z k, qSl x z → M' z k = M z k) : rSl x S g M' := by
  have e : ∀ s, 0 ≤ s → s < 8 → M' (x + 5 + s) 0 = M (x + 5 + s) 0 := fun s a b => hM _ _ (.inl ⟨by omega, by omega⟩)
  refine ⟨fun s a b => ?_, fun s t a b c d => by rw [e s a b, e t c d]; exact h.2 s t a b c d⟩
  have := h.1 s a b
  unfold rS1 at this ⊢
  rw [e s a b]
  refine ⟨this.1, fun c => ⟨(this.2 c).1, fun d => ⟨((this.2 c).2.1 d).1, fun i i0 i1 => ?_⟩, (this.2 c).2.2⟩⟩
  rw [hM _ i (.inr (this.2 c).1.1)]
  exact ((this.2 c).2.1 d).2 i i0 i1
/-! cells are added -/
theorem rG_rf : rG g g := ⟨Nat.le_refl _, fun _ _ => rfl⟩
theorem rG_tr {g'' : jx_S} (h : rG g g') (h' : rG g' g'') : rG g g'' := ⟨Nat.le_trans h.1 h'.1, fun z q => (h'.2 z (by have := h.1; omega)).trans (h.2 z q)⟩
theorem rG_add {n : Nat} : rG g (g.1 + n, g.2) := ⟨Nat.le_add_right _ _, fun _ _ => rfl⟩
theorem rSh_g (h : rSh x g) (hg : rG g g') : rSh x g' := ⟨h.1, ⟨by have := hg.1; have := h.2.1.1; omega, fun k k0 k1 => by rw [hg.2 _ (by have := h.2.1.1; omega)]; exact h.2.1.2 k k0 k1⟩, fun a q a0 a1 q0 q1 => by rw [hg.2 _ (by have := h.2.1.1; omega)]; exact h.2.2 a q a0 a1 q0 q1⟩
theorem rA_g {a : Int} (hs : rSh x g) (h : rA x S g M a) (a0 : 0 ≤ a) (a1 : a < 16) (hg : rG g g') : rA x S g' M a := by
  have ad := rA_ad h a0 a1
  unfold rA at h ⊢
  rw [hg.2 _ (by have := hs.2.1.1; omega)]
  exact h
theorem rBd_g (hS : S 0 9 ≤ 16) (hs : rSh x g) (h : rBd x S g M) (hg : rG g g') : rBd x S g' M := ⟨h.1, h.2.1, fun a a0 a1 => rA_g hs (h.2.2.1 a a0 a1) a0 (by omega) hg, h.2.2.2⟩
theorem rSl_g (h : rSl x S g M) (hg : rG g g') : rSl x S g' M := ⟨fun s a b => by
  have := h.1 s a b
  unfold rS1 at this ⊢
  refine ⟨this.1, fun c => ?_⟩
  have q := this.2 c
  rw [hg.2 _ q.1.2]
  exact ⟨⟨q.1.1, by have := hg.1; omega⟩, q.2⟩, h.2⟩
theorem rR_g (hS : S 0 9 ≤ 16) (h : rR x S g M) (hg : rG g g') : rR x S g' M := ⟨rSh_g h.1 hg, rBd_g hS h.1 h.2.1 hg, h.2.2.1, h.2.2.2.1, h.2.2.2.2.1, h.2.2.2.2.2.1, rSl_g h.2.2.2.2.2.2 hg⟩
/-- memory that no part looks at -/
theorem rR_c (hS : S 0 9 ≤ 16) (h : rR x S g M) (hM : ∀ z k, qBd x z k ∨ qEd x z k ∨ qLd x z k ∨ qRs x z ∨ qMs x z k ∨ qSl x z → M' z k = M z k) : rR x S g M' :=
  ⟨h.1, rBd_c hS h.2.1 (fun z k q => hM z k (.inl q)), rEd_c h.2.2.1 (fun z k q => hM z k (.inr (.inl q))), rLd_c h.2.2.2.1 (fun z k q => hM z k (.inr (.inr (.inl q)))), rRs_c h.2.2.2.2.1 (fun z k q => hM z k (.inr (.inr (.inr (.inl q))))), rMs_c h.2.2.2.2.2.1 (fun z k q => hM z k (.inr (.inr (.inr (.inr (.inl q)))))), rSl_c h.2.2.2.2.2.2 (fun z k q => hM z k (.inr (.inr (.inr (.inr (.inr q))))))⟩
theorem rFr_rf : rFr x g M g M := ⟨rG_rf, fun _ _ _ => rfl⟩
theorem rFr_tr {g'' : jx_S} {M'' : jx_M} (h : rFr x g M g' M') (h' : rFr x g' M' g'' M'') : rFr x g M g'' M'' := ⟨rG_tr h.1 h'.1, fun z i q => (h'.2 z i q).trans (h.2 z i q)⟩
theorem rFr_u {z i v : Int} (h : rFr x g M g' M') (hz : (x ≤ z ∧ z < x + 397) ∨ x + 430 ≤ z) : rFr x g M g' (jx_u M' z i v) := ⟨h.1, fun w k q => by rw [jx_u_a _ _ _ _ _ _ (by omega)]; exact h.2 w k q⟩
end RC
/-! the same body, another state -/
section RZ
variable {x : Int} {S S' : jx_M} {g : jx_S} {M : jx_M}
theorem rBd_Z (h : mZ S S') (hR : rBd x S g M) : rBd x S' g M := by
  unfold rBd rA at hR ⊢
  rw [h.2.1, h.2.2, h.1 1 (by decide) (by decide), h.1 2 (by decide) (by decide), h.1 3 (by decide) (by decide), h.1 4 (by decide) (by decide), h.1 5 (by decide) (by decide), h.1 6 (by decide) (by decide), h.1 7 (by decide) (by decide), h.1 8 (by decide) (by decide), h.1 9 (by decide) (by decide), h.1 10 (by decide) (by decide), h.1 11 (by decide) (by decide), h.1 12 (by decide) (by decide), h.1 13 (by decide) (by decide), h.1 14 (by decide) (by decide)]
  exact hR
theorem rEd_Z (h : mZ S S') (hR : rEd x S M) : rEd x S' M := by
  unfold rEd at hR ⊢
  rw [me_n_Z h, me_all_Z h, h.2.2]
  exact hR
end RZ
/-! a refusal -/
theorem rR_no {x w : Int} {S : jx_M} {g : jx_S} {M : jx_M} (hS : S 0 9 ≤ 16) (hw : -11 ≤ w ∧ w ≤ -1) (h : rR x S g M) : rR x (mu_no S 0 w) g (xu_refuse M x w) := by
  have z : mZ S (mu_no S 0 w) := by
    unfold mu_no
    exact mZ_0 (mZ_j mZ_rf (by decide)) (by decide)
  have e0 : ∀ k, k ≠ 26 → mu_no S 0 w 0 k = S 0 k := fun k hk => by
    unfold mu_no
    rw [jx_u_j _ _ _ _ _ _ hk, jx_u_a _ _ _ _ _ _ (by decide)]
  have ej : ∀ j k, j ≠ 0 → j ≠ 23 → mu_no S 0 w j k = S j k := fun j k h1 h2 => by
    unfold mu_no
    rw [jx_u_a _ _ _ _ _ _ h1, jx_u_a _ _ _ _ _ _ (by omega)]
  have m : ∀ z k, z ≠ x + 2 → ¬ (z = x ∧ k = 2) → xu_refuse M x w z k = M z k := fun z k h1 h2 => by
    unfold xu_refuse
    rw [show jx_u (jx_u M (x + 2) (-w) (M (x + 2) (-w) + 1)) x 2 (x + 49 - w) z k = jx_u M (x + 2) (-w) (M (x + 2) (-w) + 1) z k from if_neg h2, jx_u_a _ _ _ _ _ _ h1]
  refine ⟨h.1, rBd_c (by rw [z.2.1]; exact hS) (rBd_Z z h.2.1) (fun z k q => m z k (by unfold qBd at q; omega) (by unfold qBd at q; omega)), rEd_c (rEd_Z z h.2.2.1) (fun z k q => m z k (by unfold qEd at q; omega) (by unfold qEd at q; omega)), ?_, ?_, ?_, ?_⟩
  · refine rLd_c (M := M) ?_ (fun z k q => m z k (by unfold qLd at q; omega) (by unfold qLd at q; omega))
    have := h.2.2.2.1
    unfold rLd at this ⊢
    rw [e0 27 (by decide), e0 9 (by decide)]
    simp only [ej 24 _ (by decide) (by decide), ej 25 _ (by decide) (by decide), ej 27 _ (by decide) (by decide)]
    exact this
  · refine rRs_c (M := M) ?_ (fun z k q => m z k (by unfold qRs at q; omega) (by unfold qRs at q; omega))
    have := h.2.2.2.2.1
    unfold rRs at this ⊢
    simp only [e0 38 (by decide), e0 39 (by decide), e0 40 (by decide), e0 41 (by decide), e0 42 (by decide), e0 43 (by decide), e0 44 (by decide), e0 9 (by decide), ej 32 _ (by decide) (by decide)]
    exact this
  · have q := h.2.2.2.2.2.1
    unfold rMs at q ⊢
    rw [m x 34 (by omega) (by omega), e0 32 (by decide), show mu_no S 0 w 0 26 = w from jx_u_eq _ _ _ _, if_neg (by omega)]
    refine ⟨q.1, jx_u_eq _ _ _ _, fun k a b => ?_, fun k a b => ?_, fun k a b => by rw [m _ 6 (by omega) (by omega)]; exact q.2.2.2.2 k a b⟩
    · unfold xu_refuse mu_no
      rw [jx_u_a _ _ _ _ _ _ (by omega), jx_u_a _ 0 _ _ _ _ (by decide)]
      by_cases c : k = -w
      · rw [c, jx_u_eq, show (0 : Int) + 23 = 23 from rfl, jx_u_eq, q.2.2.1 _ (by omega) (by omega)]
      · rw [jx_u_j _ _ _ _ _ _ c, show (0 : Int) + 23 = 23 from rfl, jx_u_j _ _ _ _ _ _ c]
        exact q.2.2.1 k a b
    · rw [m _ k (by omega) (by omega), ej 31 _ (by decide) (by decide)]
      exact q.2.2.2.1 k a b
  · refine rSl_c (M := M) ?_ (fun z k q => m z k (by have := h.1.1; unfold qSl at q; omega) (by unfold qSl at q; omega))
    have := h.2.2.2.2.2.2
    unfold rSl rS1 at this ⊢
    simp only [ej 21 _ (by decide) (by decide), ej 22 _ (by decide) (by decide), ej 19 _ (by decide) (by decide)]
    exact this
theorem rFr_no {x w : Int} {g g' : jx_S} {M M' : jx_M} (h : rFr x g M g' M') : rFr x g M g' (xu_refuse M' x w) := rFr_u (rFr_u h (by omega)) (by omega)
/-! other states that look the same to a part -/
section RS
variable {x : Int} {S S' : jx_M} {g : jx_S} {M : jx_M}
theorem rMs_S (h : rMs x S M) (e1 : S' 0 32 = S 0 32) (e2 : S' 0 26 = S 0 26) (e3 : S' 23 = S 23) (e4 : S' 31 = S 31) : rMs x S' M := by
  unfold rMs at h ⊢
  rw [e1, e2, e3, e4]
  exact h
theorem rSl_S (h : rSl x S g M) (e1 : S' 19 = S 19) (e2 : S' 21 = S 21) (e3 : S' 22 = S 22) : rSl x S' g M := by
  unfold rSl rS1 at h ⊢
  rw [e1, e2, e3]
  exact h
theorem rLd_S (h : rLd x S M) (e1 : S' 0 27 = S 0 27) (e2 : S' 0 9 = S 0 9) (e3 : S' 24 = S 24) (e4 : S' 25 = S 25) (e5 : S' 27 = S 27) : rLd x S' M := by
  unfold rLd at h ⊢
  rw [e1, e2, e3, e4, e5]
  exact h
theorem rRs_S (h : rRs x S M) (e : ∀ k, 38 ≤ k → k ≤ 44 → S' 0 k = S 0 k) (e2 : S' 0 9 = S 0 9) (e3 : S' 32 = S 32) : rRs x S' M := by
  unfold rRs at h ⊢
  rw [e 38 (by decide) (by decide), e 39 (by decide) (by decide), e 40 (by decide) (by decide), e 41 (by decide) (by decide), e 42 (by decide) (by decide), e 43 (by decide) (by decide), e 44 (by decide) (by decide), e2, e3]
  exact h
end RS
theorem jx_u_row {M : jx_M} {a i v b : Int} (h : b ≠ a) : jx_u M a i v b = M b := funext fun k => jx_u_a _ _ _ _ _ _ h
