/-! THE MACHINE BY NUMBERS, 24: System.arraycopy between rows of longs -/
set_option maxRecDepth 100000
section XK
variable {D : jx_D} {l : Launch} {mt : jx_Mt} {Po : jx_Po} {pc : Nat} {ls st : List jx_A} {u : Nat × Nat} {g : jx_S} {M : jx_M}
def jx_cp (M : jx_M) (a i b j n : Int) : jx_M := fun z k => if z = b ∧ j ≤ k ∧ k < j + n then M a (i + (k - j)) else M z k
theorem jx_R_cp {H : Heap} {a b i j n ns nd : Int} {cs cd : Cell} (hR : jx_R D g M H) (ga : g.2 a = (11, ns)) (gb : g.2 b = (11, nd)) (ha : H[a.toNat]? = some cs) (hb : H[b.toNat]? = some cd) (hi : 0 ≤ i ∧ 0 ≤ j ∧ 0 ≤ n ∧ i + n ≤ ns ∧ j + n ≤ nd) :
    jx_R D g (jx_cp M a i b j n) (H.setIfInBounds b.toNat (cd.storeRun j.toNat (cs.stretch i.toNat n.toNat))) := by
  obtain ⟨r1, r2, r3, r4⟩ := hR
  obtain ⟨A1, A2, A3, cA, A4, A5, A6, A7, A8⟩ := r4 a (by rw [ga]; exact (by decide : 10 ≤ 11))
  cases ha.symm.trans A4
  rw [ga] at A7 A8
  have A7 := A7 (by decide : 11 < 40)
  obtain ⟨B1, B2, B3, cB, B4, B5, B6, B7, B8⟩ := r4 b (by rw [gb]; exact (by decide : 10 ≤ 11))
  cases hb.symm.trans B4
  rw [gb] at B2 B5 B7 B8
  have B7 := B7 (by decide : 11 < 40)
  have B2 := B2 (by decide : 11 ≠ 14)
  have hlt := (Array.getElem?_eq_some_iff.mp hb).1
  have hlen : (cs.stretch i.toNat n.toNat).length = n.toNat := by unfold Cell.stretch; simp
  have sA : (cs.slots.size : Int) = ns := A7
  have sB : (cd.slots.size : Int) = nd := B7
  have hss : j.toNat + (cs.stretch i.toNat n.toNat).length ≤ cd.slots.size := by rw [hlen]; omega
  obtain ⟨f1, f2, f3, -, -⟩ := cd.storeRun_facts j.toNat (cs.stretch i.toNat n.toNat)
  refine ⟨by rw [Array.size_setIfInBounds]; exact r1, by rw [Array.size_setIfInBounds]; exact r2, fun q hq => ?_, fun z hz => ?_⟩
  · rw [Array.getElem?_setIfInBounds, if_neg (by omega)]
    exact r3 q hq
  · by_cases e : z = b
    · subst e
      refine ⟨B1, fun _ => B2, B3, _, by rw [Array.getElem?_setIfInBounds, if_pos rfl, if_pos hlt], by rw [f1, B5, gb], by rw [f2]; exact B6, fun _ => by rw [f3, gb]; exact sB, fun k hk => ?_⟩
      rw [gb] at hk ⊢
      have hk : (k : Int) < nd := hk
      have ps : jx_ps D 11 k = k := rfl
      have o := B8 k hk
      have ps' : ∀ k : Nat, jx_ps D ((11, nd) : Nat × Int).1 k = k := fun _ => rfl
      have ld : ∀ (M' : jx_M) (z : Int) (k : Nat), jx_ld ((11, nd) : Nat × Int).1 z k M' = (1, 0, M' z k) := fun _ _ _ => rfl
      rw [ps', ld] at o ⊢
      rw [Cell.storeRun_get _ _ _ _ hss, hlen]
      unfold jx_cp
      by_cases c : j ≤ (k : Int) ∧ (k : Int) < j + n
      · rw [if_pos (by omega), if_pos ⟨rfl, c⟩]
        have o2 := A8 (i.toNat + (k - j.toNat)) (by show _ < ns; omega)
        have ps2 : ∀ k : Nat, jx_ps D ((11, ns) : Nat × Int).1 k = k := fun _ => rfl
        have ld2 : ∀ (M' : jx_M) (z : Int) (k : Nat), jx_ld ((11, ns) : Nat × Int).1 z k M' = (1, 0, M' z k) := fun _ _ _ => rfl
        rw [ps2, ld2] at o2
        have ei : ((i.toNat + (k - j.toNat) : Nat) : Int) = i + (k - j) := by omega
        rw [ei] at o2
        refine ⟨?_, o2.2⟩
        unfold Cell.stretch
        rw [List.getElem?_map, List.getElem?_range (by omega), Option.map_some, Array.getD_eq_getD_getElem?, o2.1]
        rfl
      · rw [if_neg (by omega), if_neg (fun w => c w.2)]
        exact o
    · obtain ⟨C1, C2, C3, cC, C4, C5, C6, C7, C8⟩ := r4 z hz
      refine ⟨C1, C2, C3, cC, ?_, C5, C6, C7, fun k hk => ?_⟩
      · rw [Array.getElem?_setIfInBounds, if_neg (by omega)]
        exact C4
      · have : jx_ld (g.2 z).1 z k (jx_cp M a i b j n) = jx_ld (g.2 z).1 z k M := by
          unfold jx_ld
          rw [show jx_cp M a i b j n z k = M z k from if_neg (fun w => e w.1)]
        rw [this]
        exact C8 k hk
theorem jx_s_copy {idx : Nat} {a b i j n ns nd q1 q2 q3 : Int} (hd : decode mt.2.1 pc = .ok (.invokestatic idx, 3)) (hlink : Cond.methodLink mt.1 idx arraycopyName ∈ lw_all) (hi : 0 ≤ i ∧ 0 ≤ j ∧ 0 ≤ n ∧ i + n ≤ ns ∧ j + n ≤ nd) (hlen : st.length ≤ 12)
    (h : jx_V D l mt Po (pc + 3) ls st u g (jx_cp M a i b j n)) : jx_V D l mt Po pc ls ((0, q1, n) :: (0, q2, j) :: (11, nd, b) :: (0, q3, i) :: (11, ns, a) :: st) u g M := by
  intro p e s m args below meth c C H locs lo hR hl hs hL hf h1 h2 T hTH X
  subst hTH
  have hE := C.2.2.2.2.2.2.2.1
  have gb := jx_okk (hs (11, nd, b) (by simp)) (by decide) (by decide)
  have ga := jx_okk (hs (11, ns, a) (by simp)) (by decide) (by decide)
  obtain ⟨a1, cs, a2, ⟨a3, kA, a4, cmA, a5⟩, a6, a7, a8⟩ := jx_arr0 (ty := .long) hE hR ga (by decide) (by decide) rfl
  obtain ⟨b1, cd, b2, ⟨b3, kB, b4, cmB, b5⟩, b6, b7, b8⟩ := jx_arr0 (ty := .long) hE hR gb (by decide) (by decide) rfl
  obtain ⟨-, hb0, -⟩ := hR.2.2.2 b (by rw [gb]; exact (by decide : 10 ≤ 11))
  have hb0 := hb0 (by rw [gb]; exact (by decide : 11 ≠ 14))
  have i1 : ∀ z : Int, 0 ≤ z → z ≤ 2147483647 → ¬ Int32.ofInt z < 0 ∧ (Int32.ofInt z).toInt = z ∧ (Int32.ofInt z).toNatClampNeg = z.toNat := fun z z0 z1 => by
    refine ⟨?_, jx_ti ⟨by omega, z1⟩, jx_cn z0 z1⟩
    have e0 : Int32.ofInt 0 = 0 := rfl
    rw [← e0, jx_lt ⟨by omega, z1⟩ ⟨by omega, by omega⟩]
    omega
  obtain ⟨x1, x2, x3⟩ := i1 i hi.1 (by omega)
  obtain ⟨y1, y2, y3⟩ := i1 j hi.2.1 (by omega)
  obtain ⟨n1, n2, n3⟩ := i1 n hi.2.2.1 (by omega)
  have hsum := jx_cat_sum st
  have hwords : nativeFrameWords "java/lang/System" "arraycopy" 5 ≤ 100 := by decide +kernel
  obtain ⟨vm', X', step⟩ := X.arraycopy C.1 C.2.2.2.2.2.1 (C.2.2.2.2.2.2.1 _ hlink) (C.2.2.2.2.2.2.1 _ q869) (C.2.2.2.2.2.2.1 _ q868) (C.2.2.2.2.2.2.1 _ q96) (src := a.toNat) (dst := b.toNat) (srcPos := Int32.ofInt i) (destPos := Int32.ofInt j) (n := Int32.ofInt n)
    a2 b2 a3 b3 (by rw [a6]; intro h; cases h) (by rw [b6]; intro h; cases h) a4 b4 a5 b5 (by decide) x1 y1 n1 (by rw [x2, n2]; omega) (by rw [y2, n2]; omega)
    (fun vm₁ _ k hk => by
      rw [n3] at hk
      rw [x3]
      obtain ⟨-, -, -, cA, A4, -, -, -, A8⟩ := hR.2.2.2 a (by rw [ga]; exact (by decide : 10 ≤ 11))
      cases a2.symm.trans A4
      rw [ga] at A8
      have o := (A8 (i.toNat + k) (by show _ < ns; omega)).1
      have ps2 : ∀ k : Nat, jx_ps D ((11, ns) : Nat × Int).1 k = k := fun _ => rfl
      have ld2 : ∀ (M' : jx_M) (z : Int) (k : Nat), jx_ld ((11, ns) : Nat × Int).1 z k M' = (1, 0, M' z k) := fun _ _ _ => rfl
      rw [ps2, ld2] at o
      rw [Array.getD_eq_getD_getElem?, o]
      exact ⟨rfl, trivial⟩)
    (g := F0 m pc lo (((0, q1, n) :: (0, q2, j) :: (11, nd, b) :: (0, q3, i) :: (11, ns, a) :: st).map jx_cv)) rfl (by rw [C.2.2.1]; exact hL.1) (rest := st.map jx_cv)
    (by simp only [List.map_cons]; rw [jx_cv_ref (show 2 ≤ 11 by omega) a1, jx_cv_ref (show 2 ≤ 11 by omega) b1]; rfl) (by rw [C.2.1]; exact hd) (by show 1 ≤ 8 + mt.2.2.2.2.2.1; omega) (by show 2 * 0 + _ + _ ≤ 20000 + 100 * mt.2.2.2.2.2.1; omega)
  have hR' := jx_R_cp hR ga gb a2 b2 hi
  have ec : copied cs cd (Int32.ofInt i) (Int32.ofInt j) (Int32.ofInt n) = cd.storeRun j.toNat (cs.stretch i.toNat n.toNat) := by
    show cd.storeRun (Int32.ofInt j).toNatClampNeg (cs.stretch (Int32.ofInt i).toNatClampNeg (Int32.ofInt n).toNatClampNeg) = _
    rw [x3, y3, n3]
  rw [ec] at X' step
  obtain ⟨t, w1, w2⟩ := h p e s m args below meth c C _ _ lo hR' hl (jx_ok_tl (jx_ok_tl (jx_ok_tl (jx_ok_tl (jx_ok_tl hs))))) hL (fun q hq => by
    rcases List.mem_append.mp hq with w | w
    · exact hf q w
    · obtain ⟨z, -, hz⟩ := List.mem_map.mp w
      rw [← hz]
      show D.2.2.size ≤ b.toNat
      omega) h1 h2 _ rfl X'
  exact ⟨t, step t w1, w2⟩
end XK
