/-! THE MACHINE BY NUMBERS, 11: a run that begins at a stop; small helps -/
set_option maxRecDepth 100000
theorem jx_cs0 {D : jx_D} {l : Launch} {own : String} {d : Nat} : jx_CsOK D l own d [] := fun _ h => absurd h List.not_mem_nil
theorem jx_ck_c {i j : Nat} {r : Nat × Nat × Nat × jx_Sp} {cs : jx_Cs} : jx_ck ((i, r) :: cs) j = if i = j then some r else jx_ck cs j := rfl
theorem jx_runL {D : jx_D} {l : Launch} {o : jx_O} {cc : ByteArray} {nL rc : Nat} {hh : List (Nat × Nat × Nat × Nat)} {d kc ks : Nat} {nm : String} {Po : jx_Po} {pc : Nat} {ls st : List jx_A} {u : Nat × Nat} {g : jx_S} {M : jx_M} {cs : jx_Cs} {hf : Nat → Int → Option Nat} (hO : jx_OK o) (hC : jx_CsOK D l o.1 d cs)
    (hH : jx_HK D l (o.1, cc, nL, rc, hh, d, kc, ks, nm) hf) (sp : Nat → Bool) (n : Nat)
    (h : jx_wS o cs hf rc kc ks Po (jx_wR o cs hf rc kc ks cc sp Po (jx_V D l (o.1, cc, nL, rc, hh, d, kc, ks, nm) Po) n) (fun _ _ _ _ _ _ => True) false (decode cc pc) pc ls st u g M) : jx_V D l (o.1, cc, nL, rc, hh, d, kc, ks, nm) Po pc ls st u g M := by
  unfold jx_wS at h
  split at h
  · rename_i q
    cases q
  · rename_i q
    exact jx_step (fun pc ls st u g M w => jx_run hO hC hH sp n pc ls st u g M w) hO hC hH q h
  · exact h.elim
/-- the same values under other tags -/
theorem jx_retag {D : jx_D} {l : Launch} {mt : jx_Mt} {Po : jx_Po} {pc : Nat} {ls ls' st st' : List jx_A} {u : Nat × Nat} {g : jx_S} {M : jx_M} (hl : ls'.map (fun v => if v.1 = 5 then none else some (jx_cv v)) = ls.map (fun v => if v.1 = 5 then none else some (jx_cv v))) (hs : st'.map jx_cv = st.map jx_cv) (hok : jx_ok g ls → jx_ok g st → jx_ok g ls' ∧ jx_ok g st') (h : jx_V D l mt Po pc ls' st' u g M) : jx_V D l mt Po pc ls st u g M := by
  intro p e s m args below meth c C H locs a hR hlk hsk hL hf h1 h2
  obtain ⟨o1, o2⟩ := hok hlk hsk
  rw [← hs]
  refine h p e s m args below meth c C H locs a hR o1 o2 ⟨hL.1, hL.2.1, ?_, ?_⟩ hf h1 h2
  · have := congrArg List.length hl
    simp at this
    rw [this]
    exact hL.2.2.1
  · intro k v hk hv
    have e := congrArg (fun q => q[k]?) hl
    simp only [List.getElem?_map, hk, Option.map_some, if_neg hv] at e
    cases hw : ls[k]? with
    | none => simp [hw] at e
    | some w =>
      rw [hw] at e
      by_cases h5 : w.1 = 5
      · simp [h5] at e
      · simp [h5] at e
        rw [e]
        exact hL.2.2.2 k w hw h5
/-- facts of the heap at hand may be used -/
theorem jx_rng {D : jx_D} {l : Launch} {mt : jx_Mt} {Po : jx_Po} {pc : Nat} {ls st : List jx_A} {u : Nat × Nat} {g : jx_S} {M : jx_M} (h : jx_ok g ls → jx_ok g st → jx_V D l mt Po pc ls st u g M) : jx_V D l mt Po pc ls st u g M := by
  intro p e s m args below meth c C H locs a hR hl hs hL hf h1 h2
  exact h hl hs p e s m args below meth c C H locs a hR hl hs hL hf h1 h2
