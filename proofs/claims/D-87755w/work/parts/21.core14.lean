/-! THE MACHINE BY NUMBERS, 14: new cells; cells that are finished -/
set_option maxRecDepth 100000
def jx_gp (g : jx_S) (k : Nat) (n : Int) : jx_S := (g.1 + 1, fun z => if z = (g.1 : Int) then (k, n) else g.2 z)
def jx_df (k : Nat) (i : Int) : Int := if (jx_sd k i).1 = 2 then -1 else 0
def jx_fr (M : jx_M) (z : Int) (k : Nat) : jx_M := fun a i => if a = z then jx_df k i else M a i
theorem jx_fresh {D : jx_D} {g : jx_S} {M : jx_M} {H : Heap} (hR : jx_R D g M H) : ¬ 10 ≤ (g.2 (g.1 : Int)).1 := by
  intro h
  obtain ⟨-, -, -, cell, c1, -⟩ := hR.2.2.2 _ h
  have h1 := (Array.getElem?_eq_some_iff.mp c1).1
  have h2 := hR.1
  omega
theorem jx_gp_sub {D : jx_D} {g : jx_S} {M : jx_M} {H : Heap} {k : Nat} {n : Int} (hR : jx_R D g M H) : jx_sub g (jx_gp g k n) := by
  intro z hz _
  have h := jx_fresh hR
  show (if z = (g.1 : Int) then (k, n) else g.2 z) = g.2 z
  rw [if_neg]
  intro e
  rw [e] at hz
  exact h hz
theorem jx_R_push {D : jx_D} {g : jx_S} {M : jx_M} {H : Heap} {k : Nat} {n : Int} {cell : Cell} (hR : jx_R D g M H) (hk : 10 ≤ k) (h14 : k ≠ 14) (hn : 0 ≤ n ∧ n ≤ 2147483647) (hcls : cell.cls = D.1 (jx_bk k)) (hvm : cell.vm = .none) (hsz : k < 40 → (cell.slots.size : Int) = n) (hst : ∀ i : Nat, (i : Int) < jx_cnt k n → (jx_sd k i).1 ≠ 6 ∧ (jx_sd k i).1 ≤ 2)
    (hsl : ∀ i : Nat, (i : Int) < jx_cnt k n → cell.slots[jx_ps D k i]? = some (jx_cv ((jx_sd k i).1, 0, jx_df k i))) : jx_R D (jx_gp g k n) (jx_fr M g.1 k) (H.push cell) := by
  have hfr := jx_fresh hR
  have hsub := jx_gp_sub (k := k) (n := n) hR
  obtain ⟨a1, a2, a3, a4⟩ := hR
  refine ⟨by rw [Array.size_push, a1]; rfl, by rw [Array.size_push]; omega, fun q hq => ?_, fun z hz => ?_⟩
  · rw [Array.getElem?_push, if_neg (by omega)]
    exact a3 q hq
  · by_cases e : z = (g.1 : Int)
    · subst e
      have eg : (jx_gp g k n).2 (g.1 : Int) = (k, n) := if_pos rfl
      unfold jx_Cl
      rw [eg]
      refine ⟨by omega, fun _ => by omega, hn, cell, ?_, hcls, hvm, hsz, fun i hi => ?_⟩
      · rw [Int.toNat_natCast, Array.getElem?_push, if_pos a1.symm]
      · have e1 : jx_ld k (g.1 : Int) i (jx_fr M g.1 k) = ((jx_sd k i).1, 0, jx_df k i) := by
          unfold jx_ld jx_of
          rw [if_neg (hst i hi).1]
          show (_, _, if (g.1 : Int) = (g.1 : Int) then jx_df k i else _) = _
          rw [if_pos rfl]
        show cell.slots[jx_ps D k i]? = some (jx_cv (jx_ld k (g.1 : Int) i (jx_fr M g.1 k))) ∧ jx_ok1 _ (jx_ld k (g.1 : Int) i (jx_fr M g.1 k))
        rw [e1]
        refine ⟨hsl i hi, fun z => ?_, fun z => ?_, fun z => ?_⟩
        · show jx_r64 (jx_df k i)
          unfold jx_df
          split
          · exact ⟨by omega, by omega⟩
          · exact ⟨by omega, by omega⟩
        · have := (hst i hi).2
          have z : 10 ≤ (jx_sd k i).1 := z
          omega
        · have := (hst i hi).2
          have z : 10 ≤ (jx_sd k i).1 := z
          omega
    · have eg : (jx_gp g k n).2 z = g.2 z := if_neg e
      rw [eg] at hz
      obtain ⟨b1, b2, b3, c0, c1, c2, c3, c4, c5⟩ := a4 z hz
      unfold jx_Cl
      rw [eg]
      refine ⟨b1, b2, b3, c0, ?_, c2, c3, c4, fun i hi => ?_⟩
      · have hlt := (Array.getElem?_eq_some_iff.mp c1).1
        rw [Array.getElem?_push, if_neg (by omega)]
        exact c1
      · have e1 : jx_ld (g.2 z).1 z i (jx_fr M g.1 k) = jx_ld (g.2 z).1 z i M := by
          unfold jx_ld
          rw [show jx_fr M g.1 k z i = M z i from if_neg e]
        rw [e1]
        obtain ⟨f1, f2⟩ := c5 i hi
        refine ⟨f1, f2.1, fun w => ?_, f2.2.2⟩
        obtain ⟨x1, x2⟩ := f2.2.1 w
        obtain ⟨y1, y2⟩ := jx_in_nr x1 w (f2.2.2 w)
        rw [hsub _ y1 y2]
        exact ⟨x1, x2⟩
section JN
variable {D : jx_D} {l : Launch} {mt : jx_Mt} {Po : jx_Po} {pc : Nat} {ls st : List jx_A} {u : Nat × Nat} {g : jx_S} {M : jx_M}
theorem jx_s_newarray {ty : ArrayType} {k : Nat} {n q : Int} (hk : (ty = .int ∧ k = 10) ∨ (ty = .long ∧ k = 11) ∨ (ty = .boolean ∧ k = 12)) (hd : decode mt.2.1 pc = .ok (.newarray ty, 2)) (hn : 0 ≤ n ∧ n ≤ 100000) (hu : u.1 + 1 ≤ mt.2.2.2.2.2.2.1 ∧ u.2 + n.toNat ≤ mt.2.2.2.2.2.2.2.1)
    (h : jx_V D l mt Po (pc + 2) ls ((k, n, (g.1 : Int)) :: st) (u.1 + 1, u.2 + n.toNat) (jx_gp g k n) (jx_fr M g.1 k)) : jx_V D l mt Po pc ls ((0, q, n) :: st) u g M := by
  intro p e s m args below meth c C H locs a hR hl hs hL hf h1 h2
  obtain ⟨hx, hb, -, -, -, hown, hts, hE, -⟩ := id C
  have hcn := jx_cn hn.1 (show n ≤ 2147483647 by omega)
  have hg : (H.size : Int) = g.1 := by rw [hR.1]
  have hnn : ¬ Int32.ofInt n < 0 := by
    have : Int32.ofInt n < Int32.ofInt 0 ↔ n < 0 := jx_lt ⟨by omega, by omega⟩ ⟨by omega, by omega⟩
    have e0 : Int32.ofInt 0 = 0 := rfl
    rw [← e0, this]
    omega
  have hsub := jx_gp_sub (k := k) (n := n) hR
  have main : ∀ (fty : FieldType), newarray.typeOf ty = fty → jx_aty k = some fty → jx_bk k = k → k < 40 → 10 ≤ k → k ≠ 14 → jx_nr k → (∀ i : Int, (jx_sd k i).1 ≤ 2) → (∀ i : Int, jx_cv ((jx_sd k i).1, 0, jx_df k i) = defaultValue fty) → componentBytes fty ≤ 8 → (Cond.arrayClass fty) ∈ lw_all →
      W p l e (jx_rm mt.2.2.2.2.2.1 mt.2.2.2.2.2.2.1 mt.2.2.2.2.2.2.2.1) s m args below meth c H locs u.1 u.2 (jx_Q D (jx_sq g Po) mt.2.2.2.2.2.2.1 mt.2.2.2.2.2.2.2.1 below s) (F0 m pc a (((0, q, n) :: st).map jx_cv)) := by
    intro fty e1 e2 e3 e4 e5 e6 e6' e7 e8 e9 e10
    refine W.newa hx hb (by rw [e1]; exact hts _ e10) rfl hd (n := Int32.ofInt n) (rest := st.map jx_cv) rfl hnn ?_ hu.1 (by rw [hcn]; exact hu.2) fun cA kA comp f1 f2 f3 => ?_
    · rw [hcn, e1]
      have : n.toNat * componentBytes fty ≤ 100000 * 8 := Nat.mul_le_mul (by omega) e9
      omega
    · rw [e1] at f1
      rw [hcn, e1]
      have hcA : cA = D.1 k := by
        have := (hE.2.1 k fty e2).1
        exact Option.some.inj (f1.symm.trans this)
      have hR' : jx_R D (jx_gp g k n) (jx_fr M g.1 k) (H.push { cls := cA, slots := Array.replicate n.toNat (defaultValue fty), vm := .none }) := by
        refine jx_R_push hR e5 e6 ⟨hn.1, by omega⟩ (by rw [e3]; exact hcA) rfl (fun _ => by show ((Array.replicate n.toNat (defaultValue fty)).size : Int) = n; rw [Array.size_replicate]; omega) (fun i _ => ⟨by have := e7 i; omega, e7 i⟩) (fun i hi => ?_)
        have hi : (i : Int) < n := by
          unfold jx_cnt at hi
          rw [if_pos e4] at hi
          exact hi
        rw [e8]
        show (Array.replicate n.toNat (defaultValue fty))[jx_ps D k i]? = _
        unfold jx_ps
        rw [if_pos e4, Array.getElem?_replicate, if_pos (by omega)]
      intro T hT X
      have hok : jx_ok1 (jx_gp g k n) (k, n, (g.1 : Int)) := by
        refine ⟨fun z => (by have : k = 1 := z; omega), fun _ => ?_, fun _ => e6'⟩
        have eg : (jx_gp g k n).2 (g.1 : Int) = (k, n) := if_pos rfl
        show jx_in k ((jx_gp g k n).2 (g.1 : Int)).1 ∧ ((jx_gp g k n).2 (g.1 : Int)).2 = n
        rw [eg]
        refine ⟨?_, rfl⟩
        unfold jx_in
        rw [if_neg (by omega), if_neg (by omega)]
      have := h p e s m args below meth c C _ locs a hR' (jx_ok_sub hsub hl) (jx_ok_cons hok (jx_ok_sub hsub (jx_ok_tl hs))) hL hf hu.1 hu.2
      rw [List.map_cons, jx_cv_ref (by omega) (by omega)] at this
      have e0 : ((g.1 : Int)).toNat = H.size := by omega
      rw [e0] at this
      obtain ⟨t, q1, q2⟩ := this T hT X
      exact ⟨t, q1, jx_Q_mono hsub q2⟩
  rcases hk with ⟨rfl, rfl⟩ | ⟨rfl, rfl⟩ | ⟨rfl, rfl⟩
  · exact main .int rfl rfl rfl (by omega) (by omega) (by omega) (by constructor <;> omega) (fun i => by show (0 : Nat) ≤ 2; omega) (fun i => rfl) (by decide) q128
  · exact main .long rfl rfl rfl (by omega) (by omega) (by omega) (by constructor <;> omega) (fun i => by show (1 : Nat) ≤ 2; omega) (fun i => rfl) (by decide) q189
  · exact main .boolean rfl rfl rfl (by omega) (by omega) (by omega) (by constructor <;> omega) (fun i => by show (0 : Nat) ≤ 2; omega) (fun i => rfl) (by decide) q1275
end JN
