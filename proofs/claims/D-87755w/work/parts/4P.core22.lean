/-! THE MACHINE BY NUMBERS, 22: the first call of a constructor; a new array put into a raw object -/
set_option maxRecDepth 100000
section JQ
variable {D : jx_D} {l : Launch} {mt : jx_Mt} {Po : jx_Po} {pc : Nat} {ls st : List jx_A} {u : Nat × Nat} {g : jx_S} {M : jx_M}
theorem jx_s_objinit {idx : Nat} {t : Nat} {n a : Int} (hd : decode mt.2.1 pc = .ok (.invokespecial idx, 3)) (hlink : Cond.methodLink mt.1 idx ⟨"java/lang/Object", "<init>", "()V"⟩ ∈ lw_all) (ht : 2 ≤ t) (ha : 0 ≤ a) (hlen : st.length ≤ 12)
    (h : jx_V D l mt Po (pc + 3) ls st u g M) : jx_V D l mt Po pc ls ((t, n, a) :: st) u g M := by
  intro p e s m args below meth c C H locs lo hR hl hs hL hf h1 h2
  obtain ⟨hx, hb, hml, -, -, hown, hts, hE, -⟩ := id C
  have hsum := jx_cat_sum st
  have e0 : jx_cv (t, n, a) = .ref a.toNat := jx_cv_ref ht ha
  refine W.objInit hx hb hown (hts _ hlink) (hts _ q106) (hts _ q107) rfl (by rw [hml]; exact hL.1) (a := a.toNat) (rest := st.map jx_cv) ?_ hd ?_ ?_ ?_
  · show List.map jx_cv ((t, n, a) :: st) = _
    rw [List.map_cons, e0]
  · show 1 ≤ 8 + mt.2.2.2.2.2.1
    omega
  · show 2 * 0 + _ + 12 ≤ 20000 + 100 * mt.2.2.2.2.2.1
    omega
  · exact h p e s m args below meth c C H locs lo hR hl (jx_ok_tl hs) hL hf h1 h2
theorem jx_s_fld {x k kA j t p1 : Nat} {q : vw_C} {n a w : Int} {ty : ArrayType} (hv : jx_get ls 0 = (t, w, a)) (ht : jx_isr t = true ∧ 2 ≤ t) (h0 : decode mt.2.1 pc = .ok (.aload_n 0, 1))
    (h1 : (decode mt.2.1 (pc + 1) = .ok (.bipush n, 2) ∧ p1 = pc + 3 ∧ n ≤ 127) ∨ (decode mt.2.1 (pc + 1) = .ok (.sipush n, 3) ∧ p1 = pc + 4 ∧ n ≤ 32767)) (h2 : decode mt.2.1 p1 = .ok (.newarray ty, 2)) (h3 : decode mt.2.1 (p1 + 2) = .ok (.putfield x, 3))
    (hkA : (ty = .int ∧ kA = 10) ∨ (ty = .long ∧ kA = 11) ∨ (ty = .boolean ∧ kA = 12)) (hn : 0 ≤ n) (hu : u.1 + 1 ≤ mt.2.2.2.2.2.2.1 ∧ u.2 + n.toNat ≤ mt.2.2.2.2.2.2.2.1)
    (hk : g.2 a = (k, 0)) (hlt : a < g.1) (hk1 : 40 ≤ k ∧ k < 60) (hc : jx_cl k = some q) (hj : j < q.2.2) (hw : Cond.fieldLink mt.1 x (q.2.1 j).1 (q.2.1 j).2.1 (q.2.1 j).2.2.1 ∈ lw_all)
    (hfin : (q.2.1 j).2.2.2 = false ∨ ((q.2.1 j).2.2.2 = true ∧ mt.2.2.2.2.2.2.2.2 = "<init>" ∧ (q.2.1 j).1 = mt.1)) (hty : jx_fty 2 0 (q.2.1 j).2.2.1) (hsd : (jx_sd k j).1 = 2)
    (h : jx_V D l mt Po (p1 + 5) ls st (u.1 + 1, u.2 + n.toNat) (jx_gp g kA n) (jx_u (jx_fr M g.1 kA) a j g.1)) : jx_V D l mt Po pc ls st u g M := by
  refine jx_s_aload_n h0 (by rw [show ((0 : Fin 4) : Nat) = 0 from rfl, hv]; exact ht.1) ?_
  rw [show ((0 : Fin 4) : Nat) = 0 from rfl, hv]
  have fin : jx_V D l mt Po p1 ls ((0, 0, n) :: (t, w, a) :: st) u g M := by
    refine jx_s_newarray hkA h2 ⟨hn, by rcases h1 with ⟨-, -, e⟩ | ⟨-, -, e⟩ <;> omega⟩ hu ?_
    refine jx_s_putR (j := j) (bo := 0) h3 ht.2 (k := k) ?_ hk1 hc hj hw hfin (by rw [hsd]; exact hty) (by rw [hsd]; decide) (Or.inr (Or.inr ⟨hsd, rfl, ?_⟩)) h
    · show (if a = (g.1 : Int) then (kA, n) else g.2 a) = _
      rw [if_neg (by omega), hk]
    · rcases hkA with ⟨-, e⟩ | ⟨-, e⟩ | ⟨-, e⟩ <;> (rw [e]; rfl)
  rcases h1 with ⟨a1, a2, a3⟩ | ⟨a1, a2, a3⟩
  · subst a2
    exact jx_s_bipush a1 ⟨by omega, a3⟩ fin
  · subst a2
    exact jx_s_sipush a1 ⟨by omega, a3⟩ fin
end JQ
