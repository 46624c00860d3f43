/-! THE MACHINE BY NUMBERS, 16: stores into cells that are being made; stores of references into arrays -/
set_option maxRecDepth 100000
section JP
variable {D : jx_D} {l : Launch} {mt : jx_Mt} {Po : jx_Po} {pc : Nat} {ls st : List jx_A} {u : Nat × Nat} {g : jx_S} {M : jx_M}
theorem jx_s_putR {x k j t : Nat} {q : vw_C} {v : jx_A} {n a : Int} {bo : Nat} (hd : decode mt.2.1 pc = .ok (.putfield x, 3)) (ht : 2 ≤ t) (hk : g.2 a = (k, 0)) (hk1 : 40 ≤ k ∧ k < 60) (hc : jx_cl k = some q) (hlt : j < q.2.2) (hw : Cond.fieldLink mt.1 x (q.2.1 j).1 (q.2.1 j).2.1 (q.2.1 j).2.2.1 ∈ lw_all)
    (hfin : (q.2.1 j).2.2.2 = false ∨ ((q.2.1 j).2.2.2 = true ∧ mt.2.2.2.2.2.2.2.2 = "<init>" ∧ (q.2.1 j).1 = mt.1)) (hty : jx_fty (jx_sd k j).1 bo (q.2.1 j).2.2.1) (htg6 : (jx_sd k j).1 ≠ 6)
    (hv : ((jx_sd k j).1 = 0 ∧ v.1 = 0 ∧ (bo = 0 ∨ (bo = 1 ∧ (v.2.2 = 0 ∨ v.2.2 = 1)))) ∨ ((jx_sd k j).1 = 1 ∧ bo = 0 ∧ v.1 = 1) ∨ ((jx_sd k j).1 = 2 ∧ bo = 0 ∧ jx_isr v.1 = true))
    (h : jx_V D l mt Po (pc + 3) ls st u g (jx_u M a j v.2.2)) : jx_V D l mt Po pc ls (v :: (t, n, a) :: st) u g M := by
  intro p e s m args below meth c C H locs lo hR hl hs hL hf h1 h2
  obtain ⟨hx, hb, -, -, -, hown, hts, hE, -, -, hnm, -⟩ := id C
  have hk10 : 10 ≤ (g.2 a).1 := by rw [hk]; show 10 ≤ k; omega
  have h14 : (g.2 a).1 ≠ 14 := by rw [hk]; show k ≠ 14; omega
  have hbk : jx_bk k = k := by
    unfold jx_bk
    rw [if_neg (by omega), if_neg (by omega)]
  obtain ⟨b1, b2, -, cell, c1, c2, c3, -, c5⟩ := hR.2.2.2 a hk10
  rw [hk] at c2 c5
  have c2 : cell.cls = D.1 k := by rw [← hbk]; exact c2
  obtain ⟨hin, -, -⟩ := jx_clF hc
  obtain ⟨hS, hfc, kC, hkC, hkind⟩ := hE.1 _ _ hc
  obtain ⟨cf, kf, fi, f, hi, hsl⟩ := hS _ hlt
  have hcntE : jx_cnt k 0 = ((q.2.2 : Nat) : Int) := by
    unfold jx_cnt
    rw [if_neg (by omega), hbk, hc]
  have hcnt : ((j : Nat) : Int) < jx_cnt k 0 := by rw [hcntE]; omega
  have ep : ∀ i, jx_ps D k i = D.2.1 k i := fun i => by
    unfold jx_ps
    rw [if_neg (by omega), hbk]
  have e3 : jx_ps D k j = f.slot := by rw [ep]; exact hsl.symm
  obtain ⟨ty, hd1, hn1, hf1⟩ := jx_fits (v := v) hty hv
  have hst := (u_facts hfc hkC (u_lays hts hin hlt) hi).1
  have hcv : jx_cv v = jx_cv ((jx_sd k j).1, 0, v.2.2) := by
    obtain ⟨vt, vn, vz⟩ := v
    rcases hv with ⟨w, w2, -⟩ | ⟨w, -, w2⟩ | ⟨w, -, w2⟩
    · simp at w2; subst w2; rw [w]; rfl
    · simp at w2; subst w2; rw [w]; rfl
    · rw [w]
      have w3 := jx_isr_spec w2
      simp at w3
      have : 2 ≤ vt := by omega
      match vt, this with
      | vt + 2, _ => rfl
  have hokv : jx_ok1 g ((jx_sd k j).1, 0, v.2.2) := by
    rcases hv with ⟨w, -⟩ | ⟨w, -, w2⟩ | ⟨w, -⟩
    · rw [w]; exact jx_ok_i
    · rw [w]; exact jx_ok_l ((hs _ List.mem_cons_self).1 w2)
    · rw [w]; exact jx_ok_n
  have hslot : f.slot < cell.slots.size := by
    have := (c5 _ hcnt).1
    have this : cell.slots[jx_ps D k j]? = _ := this
    rw [e3] at this
    exact k2_hasslot this
  have kk : ∀ H' : Heap, H'[a.toNat]? = some (cell.setSlot f.slot (jx_cv v)) → H'.size = H.size → (∀ q, q ≠ a.toNat → H'[q]? = H[q]?) → W p l e (jx_rm mt.2.2.2.2.2.1 mt.2.2.2.2.2.2.1 mt.2.2.2.2.2.2.2.1) s m args below meth c H' (locs ++ [⟨a.toNat, f.slot⟩]) u.1 u.2 (jx_Q D (jx_sq g Po) mt.2.2.2.2.2.2.1 mt.2.2.2.2.2.2.2.1 below s) (F0 m (pc + 3) lo (st.map jx_cv)) := by
    intro H' w1 w2 w3
    refine h p e s m args below meth c C H' _ lo ?_ hl (jx_ok_tl (jx_ok_tl hs)) hL (jx_loc hf (b2 h14)) h1 h2
    refine jx_R_put (v := v.2.2) (i := j) hR hk10 h14 (by rw [hk]; exact hcnt) (by rw [hk]; exact htg6) c1 ?_ (by rw [hk]; exact hokv) (by rw [hk]; show H'[a.toNat]? = some (cell.setSlot (jx_ps D k j) _); rw [e3, ← hcv]; exact w1) w2 w3
    intro i hi' hne
    rw [hk] at hi' ⊢
    show jx_ps D k i ≠ jx_ps D k j
    rw [ep, ep]
    have hi' : (i : Int) < jx_cnt k 0 := hi'
    rw [hcntE] at hi'
    exact jx_apart hts hE hc i _ (by omega) hlt hne
  rw [List.map_cons, List.map_cons, jx_cv_ref ht b1]
  have hlay := hts _ (hin _ (u_in_lay hlt))
  unfold u_lay at hlay
  rcases hfin with hfin | ⟨hfin, hini, hdecl⟩
  · rw [if_neg (by rw [hfin]; decide)] at hlay
    have h6 := u_store hfc hkC hkind hlay hi hd1 hn1 hf1
    exact W.putK hx hb (f := f) ⟨hown, hts _ hw, ⟨_, _, _, hi⟩, hst⟩ (by rw [c2]; exact h6) c1 c3 hslot rfl rfl hd kk
  · rw [if_pos hfin] at hlay
    have hcf : m.cls = cf := by
      obtain ⟨_, _, c', _, _, _, -, -, hf', -, -, -, hown2, -⟩ := Cond.laysFinal_spec hlay
      have e1 : c' = cf := by have := hi.symm.trans hf'; simp at this; exact this.1.symm
      rw [hdecl] at hown2
      rw [← e1]; exact Option.some.inj (hown.symm.trans hown2)
    have h6 := u_fits hfc hkC hkind (Or.inr hlay) hi hd1 hn1 hf1
    exact W.putFinK hx hb hown (hts _ hw) hi hst hcf (by rw [hnm]; exact hini) (by rw [c2]; exact h6) c1 c3 hslot rfl rfl hd kk
/-- a reference into an array: its class can be assigned to the array's -/
theorem jx_s_aastore {k t t2 : Nat} {q : vw_C} {C0 : String} {n a i z w0 w1 w2 : Int} (hd : decode mt.2.1 pc = .ok (.aastore, 1)) (ht : jx_isr t = true) (ht2 : 2 ≤ t2) (hk : g.2 a = (k, n)) (hk1 : (20 ≤ k ∧ k < 30) ∨ k = 32) (hty : jx_aty (jx_bk k) = some (.object C0)) (hsd : ∀ i : Int, (jx_sd k i).1 = 2) (hi : 0 ≤ i ∧ i < n) (hz : 10 ≤ (g.2 z).1) (hq : jx_cl (jx_bk (g.2 z).1) = some q) (hcast : Cond.castable q.1 C0 ∈ jx_nl ∨ q.1 = C0)
    (h : jx_V D l mt Po (pc + 1) ls st u g (jx_u M a i z)) : jx_V D l mt Po pc ls ((t, w0, z) :: (0, w1, i) :: (t2, w2, a) :: st) u g M := by
  intro p e s m args below meth c C H locs lo hR hl hs hL hf h1 h2
  have hE := C.2.2.2.2.2.2.2.1
  obtain ⟨a1, a0, cell, a2, a3, a4, asz, a5, a8, a6, a7⟩ := jx_arr hE hR hk (by omega) (by omega) hty hi.1 hi.2
  have hn : n ≤ 2147483647 := by have := (hR.2.2.2 a (by rw [hk]; show 10 ≤ k; omega)).2.2.1.2; rw [hk] at this; exact this
  obtain ⟨z1, -, -, cv, z2, z3, z4, -⟩ := hR.2.2.2 z hz
  obtain ⟨-, hfc, kC, hkC, -⟩ := hE.1 _ _ hq
  obtain ⟨-, kA, comp, d1, d2, d3⟩ := hE.2.1 _ _ hty
  obtain ⟨d4, kc, d5⟩ := d3 C0 rfl
  have hcls : cell.cls = D.1 (jx_bk k) := by
    obtain ⟨-, -, -, cell', e1, e2, -⟩ := hR.2.2.2 a (by rw [hk]; show 10 ≤ k; omega)
    cases a2.symm.trans e1
    rw [hk] at e2
    exact e2
  have hasg : s.vm.assignable cv.cls comp = true := by
    rw [z3]
    rcases hcast with hcast | hcast
    · obtain ⟨c1', t1', r1, r2, r3⟩ := Cond.castable_spec (hE.2.2.1 _ hcast)
      cases hfc.symm.trans r1
      cases d4.symm.trans r2
      exact r3
    · have : D.1 (jx_bk (g.2 z).1) = comp := by
        rw [hcast] at hfc
        exact Option.some.inj (hfc.symm.trans d4)
      have hca := hE.1 _ _ hq
      rw [← this]
      exact va_assign hca.2
  have ht' : 2 ≤ t := by rcases jx_isr_spec ht with w | w <;> omega
  rw [List.map_cons, List.map_cons, List.map_cons, jx_cv_ref ht2 a1, jx_cv_ref ht' z1]
  refine W.aast C.1 C.2.1 a2 (jx_vms a4) (jx_vmk a4) (by rw [hcls]; exact d1) d2 rfl d5 ⟨fun w => a5 (Or.inl w), by have := a8; omega⟩ z2 (jx_vms z4) (by rw [z3]; exact hkC) hasg rfl rfl hd fun H' q1 q2 q3 => ?_
  refine h p e s m args below meth c C H' _ lo (jx_R_arr hR hk (by omega) (by omega) (by omega) hi.1 hi.2 (by rw [hsd]; omega) a2 (by rw [hsd]; exact jx_ok_n) ?_ q2 q3 hn) hl (jx_ok_tl (jx_ok_tl (jx_ok_tl hs))) hL (jx_loc hf (a0 (by omega))) h1 h2
  rw [hsd, jx_cv_ref (by omega) z1]
  exact q1
end JP
