/-! an act is added: the state, the memory -/
set_option maxRecDepth 100000
def aS (S S1 : jx_M) (q s v : Int) (o d : Int → Int) : Prop := (S1 0 9 = S 0 9 + 1 ∧ S1 0 15 = S 0 15 ∧ S1 0 32 = S 0 32 ∧ S1 0 26 = S 0 26) ∧
  (∀ a, a ≠ S 0 9 → S1 1 a = S 1 a ∧ S1 2 a = S 2 a ∧ S1 3 a = S 3 a ∧ S1 4 a = S 4 a ∧ S1 5 a = S 5 a ∧ S1 8 a = S 8 a ∧ S1 9 a = S 9 a) ∧ (∀ k, k < 3 * S 0 9 → S1 6 k = S 6 k ∧ S1 7 k = S 7 k) ∧
  (S1 10 = S 10 ∧ S1 11 = S 11 ∧ S1 12 = S 12 ∧ S1 13 = S 13 ∧ S1 14 = S 14 ∧ S1 19 = S 19 ∧ S1 21 = S 21 ∧ S1 22 = S 22 ∧ S1 23 = S 23 ∧ S1 31 = S 31) ∧
  (S1 1 (S 0 9) = q ∧ S1 2 (S 0 9) = 1 ∧ S1 3 (S 0 9) = 0 ∧ S1 4 (S 0 9) = 1 ∧ S1 5 (S 0 9) = s ∧ S1 8 (S 0 9) = 0 ∧ S1 9 (S 0 9) = v) ∧ ∀ i, 0 ≤ i → i < 3 → S1 6 (3 * S 0 9 + i) = o i ∧ S1 7 (3 * S 0 9 + i) = d i
theorem mB_aS {S S1 : jx_M} {q s v : Int} {o d : Int → Int} (hB : mB S) (h : aS S S1 q s v o d) (hm : S 0 9 < 16) (hq : 0 ≤ q ∧ q ≤ 6) (hs : -1 ≤ s ∧ s ≤ 7) (hqs : (q = 4 ∨ q = 5) ↔ 0 ≤ s)
    (ho : ∀ i, 0 ≤ i → i < 3 → (i < mm_nop q → (0 ≤ o i ∧ o i ≤ 15) ∧ (0 ≤ d i ∧ d i ≤ 4) ∧ (d i = 0 → o i < S 0 9)) ∧ (mm_nop q ≤ i → o i = -1 ∧ d i = -1)) : mB S1 := by
  obtain ⟨⟨e9, e15, -, -⟩, ha, hk, ⟨e10, e11, e12, e13, e14, -⟩, ⟨n1, n2, n3, n4, n5, n8, n9⟩, hi⟩ := h
  obtain ⟨b1, b2, b3, b4, b5, b6⟩ := hB
  refine ⟨by omega, by omega, fun a a0 a1 => ?_, fun a i a0 a1 i0 i1 => ?_, fun e e0 e1 => ?_, ?_⟩
  · by_cases c : a = S 0 9
    · rw [c, n1, n2, n3, n4, n5]
      exact ⟨hq, by decide, by decide, by decide, hs, hqs⟩
    · obtain ⟨h1, h2, h3, h4, h5, -⟩ := ha a c
      rw [h1, h2, h3, h4, h5]
      exact b3 a a0 (by omega)
  · by_cases c : a = S 0 9
    · rw [c, n1, (hi i i0 i1).1, (hi i i0 i1).2]
      exact ho i i0 i1
    · rw [(ha a c).1, (hk _ (by omega)).1, (hk _ (by omega)).2]
      exact b4 a i a0 (by omega) i0 i1
  · rw [e11, e12, e13, e14]
    have := b5 e e0 (by omega)
    omega
  · intro k k0 k1
    rw [e10]
    exact b6 k k0 k1
def aM (x p q s v : Int) (o d : Int → Int) (M M1 : jx_M) : Prop := (M1 x 5 = M x 5 + 1 ∧ M1 (x + 13) (M x 5) = p ∧ ∀ a, a ≠ M x 5 → M1 (x + 13) a = M (x + 13) a) ∧ (∀ z k, ¬ (z = x ∧ k = 5) → z ≠ x + 13 → ¬ (p ≤ z ∧ z ≤ p + 2) → M1 z k = M z k) ∧
  (M1 p 0 = 1 ∧ M1 p 1 = 0 ∧ M1 p 2 = 1 ∧ M1 p 3 = 0 ∧ M1 p 4 = mm_nop q) ∧ (∀ i, 0 ≤ i → i < mm_nop q → M1 (p + 1) i = o i ∧ M1 (p + 2) i = d i) ∧ (q = 0 → M1 p 7 = v) ∧ ((q = 4 ∨ q = 5) → M1 p 7 = s)
theorem rBd_aS {x p q s v : Int} {S S1 : jx_M} {g : jx_S} {M M1 : jx_M} {o d : Int → Int} (hs : rSh x g) (hR : rBd x S g M) (h : aS S S1 q s v o d) (hM : aM x p q s v o d M M1) (h9 : 0 ≤ S 0 9 ∧ S 0 9 < 16) (hq : 0 ≤ q ∧ q ≤ 6) (hp : p = x + 61 + 21 * S 0 9 + 3 * q) : rBd x S1 g M1 := by
  obtain ⟨⟨e9, e15, -, -⟩, ha, hk, ⟨e10, e11, e12, e13, e14, -⟩, ⟨n1, n2, n3, n4, n5, n8, n9⟩, hi⟩ := h
  obtain ⟨⟨m5, m13, m13'⟩, mf, ⟨p0, p1, p2, p3, p4⟩, po, pv, ps⟩ := hM
  obtain ⟨r5, r15, ra, ru, rt⟩ := hR
  have hm := mm_nop_3 q
  refine ⟨by rw [m5, e9, r5], by rw [mf x 18 (by omega) (by omega) (by omega), e15, r15], fun a a0 a1 => ?_, fun k k0 k1 => ?_, fun e e0 e1 => ?_⟩
  · by_cases c : a = S 0 9
    · have sh := hs.2.2 (S 0 9) q h9.1 h9.2 hq.1 (by omega)
      rw [c]
      unfold rA
      rw [← r5, m13, r5, n1, n2, n3, n4, n5, n8, n9]
      refine ⟨hq, by omega, by rw [hp]; exact sh, p0, p1, p2, p3, p4, fun i i0 i1 => ?_, pv, ps⟩
      rw [(hi i i0 (by omega)).1, (hi i i0 (by omega)).2]
      exact po i i0 i1
    · have A := ra a a0 (by omega)
      have ad := rA_ad A a0 (by omega)
      have A1 := A.1
      have A2 := A.2.1
      have e : ∀ z k, z = M (x + 13) a ∨ z = M (x + 13) a + 1 ∨ z = M (x + 13) a + 2 → M1 z k = M z k := fun z k w => mf z k (by omega) (by omega) (by omega)
      obtain ⟨h1, h2, h3, h4, h5, h8, h9'⟩ := ha a c
      unfold rA at A ⊢
      rw [m13' a (by omega), h1, h2, h3, h4, h5, h8, h9', e _ 0 (.inl rfl), e _ 1 (.inl rfl), e _ 2 (.inl rfl), e _ 3 (.inl rfl), e _ 4 (.inl rfl), e _ 7 (.inl rfl)]
      refine ⟨A.1, A.2.1, A.2.2.1, A.2.2.2.1, A.2.2.2.2.1, A.2.2.2.2.2.1, A.2.2.2.2.2.2.1, A.2.2.2.2.2.2.2.1, fun i i0 i1 => ?_, A.2.2.2.2.2.2.2.2.2⟩
      have n3' := mm_nop_3 (S 1 a)
      rw [e _ i (.inr (.inl rfl)), e _ i (.inr (.inr rfl)), (hk _ (by omega)).1, (hk _ (by omega)).2]
      exact A.2.2.2.2.2.2.2.2.1 i i0 i1
  · rw [mf _ k (by omega) (by omega) (by omega), e10]; exact ru k k0 k1
  · rw [mf (x + 22) e (by omega) (by omega) (by omega), mf (x + 23) e (by omega) (by omega) (by omega), mf (x + 24) e (by omega) (by omega) (by omega), mf (x + 25) e (by omega) (by omega) (by omega), e11, e12, e13, e14]
    exact rt e e0 (by omega)
/-- all but the body is as it was -/
theorem rR_aS {x p q s v : Int} {S S1 : jx_M} {g : jx_S} {M M1 M' : jx_M} {o d : Int → Int} (hR : rR x S g M) (h : aS S S1 q s v o d) (hM : aM x p q s v o d M M1) (h9 : 0 ≤ S 0 9 ∧ S 0 9 < 16) (hq : 0 ≤ q ∧ q ≤ 6) (hp : p = x + 61 + 21 * S 0 9 + 3 * q) (hc : rCh x S1 M1 M') : rR x (mu_changes S1 0) g M' ∧ rFr x g M g M' := by
  obtain ⟨hs, hb, -, -, -, hm, hl⟩ := hR
  have mf := hM.2.1
  have x0 := hs.1
  refine ⟨rR_ch (by have := h.1.1; omega) hs (rBd_aS hs hb h hM h9 hq hp) (rMs_S (rMs_c hm (fun z k w => mf z k (by unfold qMs at w; omega) (by unfold qMs at w; omega) (by unfold qMs at w; omega))) h.1.2.2.1 h.1.2.2.2 h.2.2.2.1.2.2.2.2.2.2.2.2.1 h.2.2.2.1.2.2.2.2.2.2.2.2.2) (rSl_S (rSl_c hl (fun z k w => mf z k (by unfold qSl at w; omega) (by unfold qSl at w; omega) (by unfold qSl at w; omega))) h.2.2.2.1.2.2.2.2.2.1 h.2.2.2.1.2.2.2.2.2.2.1 h.2.2.2.1.2.2.2.2.2.2.2.1) hc, rFr_ch ⟨rG_rf, fun z i w => mf z i (by omega) (by omega) (by omega)⟩ hc⟩
/-- the state with an act more, ahead of what 'changes' forgets -/
def mu_add1 (S : jx_M) (a w s x dx z dz u du v : Int) : jx_M := mu_op (mu_op (mu_op (jx_u (jx_u (jx_u (jx_u (jx_u (jx_u (jx_u (jx_u S 0 9 (a + 1)) 1 a w) 2 a 1) 3 a 0) 4 a 1) 5 a s) 8 a 0) 9 a v) 0 (3 * a + 0) x dx) 0 (3 * a + 1) z dz) 0 (3 * a + 2) u du
theorem aS_add1 {S : jx_M} {w s x dx z dz u du v : Int} {o d : Int → Int} (h9 : 0 ≤ S 0 9) (o0 : o 0 = x) (o1 : o 1 = z) (o2 : o 2 = u) (d0 : d 0 = dx) (d1 : d 1 = dz) (d2 : d 2 = du) : aS S (mu_add1 S (S 0 9) w s x dx z dz u du v) w s v o d := by
  unfold mu_add1 mu_op
  simp only [Int.zero_add]
  have t : ∀ j : Int, j = 1 ∨ j = 2 ∨ j = 3 ∨ j = 4 ∨ j = 5 ∨ j = 8 ∨ j = 9 ∨ 10 ≤ j ∨ j = 0 → ∀ (X : jx_M) i v k, jx_u X 6 i v j k = X j k ∧ jx_u X 7 i v j k = X j k := fun j hj X i v k => ⟨jx_u_a _ _ _ _ _ _ (by omega), jx_u_a _ _ _ _ _ _ (by omega)⟩
  refine ⟨⟨?_, ?_, ?_, ?_⟩, fun a ha => ⟨?_, ?_, ?_, ?_, ?_, ?_, ?_⟩, fun k hk => ⟨?_, ?_⟩, ⟨?_, ?_, ?_, ?_, ?_, ?_, ?_, ?_, ?_, ?_⟩, ⟨?_, ?_, ?_, ?_, ?_, ?_, ?_⟩, fun i i0 i1 => ?_⟩
  · simp (disch := omega) only [jx_u_a, jx_u_eq]
  · simp (disch := omega) only [jx_u_a, jx_u_j]
  · simp (disch := omega) only [jx_u_a, jx_u_j]
  · simp (disch := omega) only [jx_u_a, jx_u_j]
  · simp (disch := omega) only [jx_u_a, jx_u_j]
  · simp (disch := omega) only [jx_u_a, jx_u_j]
  · simp (disch := omega) only [jx_u_a, jx_u_j]
  · simp (disch := omega) only [jx_u_a, jx_u_j]
  · simp (disch := omega) only [jx_u_a, jx_u_j]
  · simp (disch := omega) only [jx_u_a, jx_u_j]
  · simp (disch := omega) only [jx_u_a, jx_u_j]
  · simp (disch := omega) only [jx_u_a, jx_u_j]
  · simp (disch := omega) only [jx_u_a, jx_u_j]
  · simp (disch := omega) only [jx_u_row]
  · simp (disch := omega) only [jx_u_row]
  · simp (disch := omega) only [jx_u_row]
  · simp (disch := omega) only [jx_u_row]
  · simp (disch := omega) only [jx_u_row]
  · simp (disch := omega) only [jx_u_row]
  · simp (disch := omega) only [jx_u_row]
  · simp (disch := omega) only [jx_u_row]
  · simp (disch := omega) only [jx_u_row]
  · simp (disch := omega) only [jx_u_row]
  · simp (disch := omega) only [jx_u_a, jx_u_eq]
  · simp (disch := omega) only [jx_u_a, jx_u_eq]
  · simp (disch := omega) only [jx_u_a, jx_u_eq]
  · simp (disch := omega) only [jx_u_a, jx_u_eq]
  · simp (disch := omega) only [jx_u_a, jx_u_eq]
  · simp (disch := omega) only [jx_u_a, jx_u_eq]
  · simp (disch := omega) only [jx_u_a, jx_u_eq]
  · rcases (show i = 0 ∨ i = 1 ∨ i = 2 by omega) with rfl | rfl | rfl
    · rw [o0, d0]
      constructor <;> simp (disch := omega) only [jx_u_a, jx_u_j, jx_u_eq]
    · rw [o1, d1]
      constructor <;> simp (disch := omega) only [jx_u_a, jx_u_j, jx_u_eq]
    · rw [o2, d2]
      constructor <;> simp (disch := omega) only [jx_u_a, jx_u_j, jx_u_eq]
theorem mu_adds_1 {S : jx_M} {a w s x dx z dz : Int} : mu_adds S 0 a w s x dx z dz = mu_changes (mu_add1 S a w s x dx z dz (-1) (-1) 0) 0 := rfl
/-- updates of other arrays go through -/
theorem jx_u_comm {M : jx_M} {a b i k v w : Int} (h : a ≠ b) : jx_u (jx_u M a i v) b k w = jx_u (jx_u M b k w) a i v := by
  funext j m
  unfold jx_u
  by_cases c1 : j = b ∧ m = k
  · rw [if_pos c1, if_neg (by omega), if_pos c1]
  · rw [if_neg c1, if_neg c1]
theorem mu_changes_u {M : jx_M} {b k w : Int} (h : b ≠ 0) : jx_u (mu_changes M 0) b k w = mu_changes (jx_u M b k w) 0 := by
  have h' : (0 : Int) ≠ b := fun e => h e.symm
  unfold mu_changes mu_forget
  rw [jx_u_comm h', jx_u_comm h', jx_u_comm h', jx_u_comm h', jx_u_comm h', jx_u_comm h', jx_u_comm h', jx_u_comm h']
