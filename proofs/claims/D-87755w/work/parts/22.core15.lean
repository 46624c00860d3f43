/-! THE MACHINE BY NUMBERS, 15: new objects, new arrays of references; finished cells -/
set_option maxRecDepth 100000
section JO
variable {D : jx_D} {l : Launch} {mt : jx_Mt} {Po : jx_Po} {pc : Nat} {ls st : List jx_A} {u : Nat × Nat} {g : jx_S} {M : jx_M}
theorem jx_s_new {idx k : Nat} {q : vw_C} (ty : Nat → FieldType) (hq : jx_cl k = some q) (hk : 40 ≤ k ∧ k < 60) (hd : decode mt.2.1 pc = .ok (.new idx, 3)) (hlink : Cond.classLink mt.1 idx q.1 ∈ lw_all) (hins : Cond.instantiable q.1 q.2.2 ∈ lw_all) (hini : Cond.initialized q.1 ∈ lw_all)
    (hty : ∀ j, j < q.2.2 → parseFieldDescriptor (q.2.1 j).2.2.1 = some (ty j)) (hdf : ∀ j : Nat, j < q.2.2 → defaultValue (ty j) = jx_cv ((jx_sd k j).1, 0, jx_df k j) ∧ (jx_sd k j).1 ≤ 2) (hu : u.1 + 1 ≤ mt.2.2.2.2.2.2.1 ∧ u.2 + q.2.2 ≤ mt.2.2.2.2.2.2.2.1)
    (h : jx_V D l mt Po (pc + 3) ls ((2, 0, (g.1 : Int)) :: st) (u.1 + 1, u.2 + q.2.2) (jx_gp g k 0) (jx_fr M g.1 k)) : jx_V D l mt Po pc ls st u g M := by
  intro p e s m args below meth c C H locs a hR hl hs hL hf h1 h2
  obtain ⟨hx, hb, -, -, -, hown, hts, hE, -⟩ := id C
  have hbk : jx_bk k = k := by
    unfold jx_bk
    rw [if_neg (by omega), if_neg (by omega)]
  have hcnt : jx_cnt k 0 = ((q.2.2 : Nat) : Int) := by
    unfold jx_cnt
    rw [if_neg (by omega), hbk, hq]
  have hsub := jx_gp_sub (k := k) (n := 0) hR
  refine W.newc hx hb hown (hts _ hlink) (hts _ hins) (hts _ hini) rfl hd hu.1 hu.2 fun cC kC f1 f2 f3 f4 => ?_
  obtain ⟨hin, -, -⟩ := jx_clF hq
  have hKn := hE.1 k q hq
  have hcC : cC = D.1 k := Option.some.inj (f1.symm.trans hKn.2.1)
  have hob := u_born (o := H.size) (H := H.push { cls := cC, slots := kC.instanceTypes.map defaultValue, vm := .none }) (kC := kC) ty hts hin hKn (by rw [← hcC]; exact f2) (by rw [Array.getElem?_push, if_pos rfl, hcC]; rfl) hty
  obtain ⟨cell, o1, o2, o3, o4⟩ := hob
  rw [Array.getElem?_push, if_pos rfl] at o1
  cases o1
  have hR' : jx_R D (jx_gp g k 0) (jx_fr M g.1 k) (H.push { cls := cC, slots := kC.instanceTypes.map defaultValue, vm := .none }) := by
    refine jx_R_push hR (by omega) (by omega) ⟨by omega, by omega⟩ (by rw [hbk]; exact hcC) rfl (fun z => by omega) (fun i hi => ?_) (fun i hi => ?_)
    · rw [hcnt] at hi
      have := (hdf i (by omega)).2
      exact ⟨by omega, this⟩
    · rw [hcnt] at hi
      have o := o4 i (by omega)
      dsimp only at o
      rw [(hdf i (by omega)).1] at o
      unfold jx_ps
      rw [if_neg (by omega), hbk]
      exact o
  have hg : (H.size : Int) = g.1 := by rw [hR.1]
  intro T hT X
  have := h p e s m args below meth c C _ locs a hR' (jx_ok_sub hsub hl) (jx_ok_cons jx_ok_n (jx_ok_sub hsub hs)) hL hf hu.1 hu.2
  rw [List.map_cons, jx_cv_ref (by omega) (by omega)] at this
  have e0 : ((g.1 : Int)).toNat = H.size := by omega
  rw [e0] at this
  obtain ⟨t, q1, q2⟩ := this T hT X
  exact ⟨t, q1, jx_Q_mono hsub q2⟩
theorem jx_s_anew {idx k : Nat} {C0 : String} {n w : Int} (hk : 20 ≤ k ∧ k < 30) (hty : jx_aty k = some (.object C0)) (hd : decode mt.2.1 pc = .ok (.anewarray idx, 3)) (hlink : Cond.classLink mt.1 idx C0 ∈ lw_all) (hov : Cond.arrayOver (.object C0) ∈ jx_nl) (hn : 0 ≤ n ∧ n ≤ 100000) (hsd : ∀ i : Int, (jx_sd k i).1 = 2) (hu : u.1 + 1 ≤ mt.2.2.2.2.2.2.1 ∧ u.2 + n.toNat ≤ mt.2.2.2.2.2.2.2.1)
    (h : jx_V D l mt Po (pc + 3) ls ((2, 0, (g.1 : Int)) :: st) (u.1 + 1, u.2 + n.toNat) (jx_gp g k n) (jx_fr M g.1 k)) : jx_V D l mt Po pc ls ((0, w, n) :: st) u g M := by
  intro p e s m args below meth c C H locs a hR hl hs hL hf h1 h2
  obtain ⟨hx, hb, -, -, -, hown, hts, hE, -⟩ := id C
  have hbk : jx_bk k = k := by
    unfold jx_bk
    rw [if_neg (by omega), if_neg (by omega)]
  have hcn := jx_cn hn.1 (show n ≤ 2147483647 by omega)
  have hnn : ¬ Int32.ofInt n < 0 := by
    have : Int32.ofInt n < Int32.ofInt 0 ↔ n < 0 := jx_lt ⟨by omega, by omega⟩ ⟨by omega, by omega⟩
    have e0 : Int32.ofInt 0 = 0 := rfl
    rw [← e0, this]
    omega
  have hsub := jx_gp_sub (k := k) (n := n) hR
  refine W.anew hx hb hown (hts _ hlink) (va_AO.use (hE.2.2.1 _ hov)) rfl hd (n := Int32.ofInt n) (rest := st.map jx_cv) rfl hnn (by rw [hcn]; omega) hu.1 (by rw [hcn]; exact hu.2) fun cA kA comp f1 f2 f3 f4 => ?_
  rw [hcn]
  have hcA : cA = D.1 k := Option.some.inj (f1.symm.trans (hE.2.1 k _ hty).1)
  have hcv : ∀ i : Int, jx_cv ((jx_sd k i).1, 0, jx_df k i) = .null := fun i => by
    unfold jx_df
    rw [hsd i, if_pos rfl]
    rfl
  have hR' : jx_R D (jx_gp g k n) (jx_fr M g.1 k) (H.push { cls := cA, slots := Array.replicate n.toNat .null, vm := .none }) := by
    refine jx_R_push hR (by omega) (by omega) ⟨hn.1, by omega⟩ (by rw [hbk]; exact hcA) rfl (fun _ => by show ((Array.replicate n.toNat Value.null).size : Int) = n; rw [Array.size_replicate]; omega) (fun i _ => by rw [hsd]; exact ⟨by omega, by omega⟩) (fun i hi => ?_)
    have hi : (i : Int) < n := by
      unfold jx_cnt at hi
      rw [if_pos (by omega)] at hi
      exact hi
    rw [hcv]
    show (Array.replicate n.toNat Value.null)[jx_ps D k i]? = _
    unfold jx_ps
    rw [if_pos (by omega), Array.getElem?_replicate, if_pos (by omega)]
  have hg : (H.size : Int) = g.1 := by rw [hR.1]
  intro T hT X
  have := h p e s m args below meth c C _ locs a hR' (jx_ok_sub hsub hl) (jx_ok_cons jx_ok_n (jx_ok_sub hsub (jx_ok_tl hs))) hL hf hu.1 hu.2
  rw [List.map_cons, jx_cv_ref (by omega) (by omega)] at this
  have e0 : ((g.1 : Int)).toNat = H.size := by omega
  rw [e0] at this
  obtain ⟨t, q1, q2⟩ := this T hT X
  exact ⟨t, q1, jx_Q_mono hsub q2⟩
/-- cells that were raw are finished: the heap is the same, the shapes say more -/
theorem jx_seal {g' : jx_S} (hsz : g'.1 = g.1) (hsub : jx_sub g g')
    (hz : ∀ z : Int, 10 ≤ (g'.2 z).1 → g'.2 z = g.2 z ∨ (10 ≤ (g.2 z).1 ∧ (g.2 z).1 ≠ 14 ∧ jx_bk (g'.2 z).1 = jx_bk (g.2 z).1 ∧ (g'.2 z).2 = (g.2 z).2 ∧ ((g'.2 z).1 < 40 ↔ (g.2 z).1 < 40) ∧ ∀ i : Nat, (i : Int) < jx_cnt (g.2 z).1 (g.2 z).2 → jx_cv (jx_ld (g'.2 z).1 z i M) = jx_cv (jx_ld (g.2 z).1 z i M) ∧ (jx_ok1 g (jx_ld (g.2 z).1 z i M) → jx_ok1 g' (jx_ld (g'.2 z).1 z i M))))
    (h : jx_V D l mt Po pc ls st u g' M) : jx_V D l mt Po pc ls st u g M := by
  intro p e s m args below meth c C H locs a hR hl hs hL hf h1 h2
  have hR' : jx_R D g' M H := by
    obtain ⟨a1, a2, a3, a4⟩ := hR
    refine ⟨by rw [hsz]; exact a1, a2, a3, fun z hz10 => ?_⟩
    rcases hz z hz10 with e0 | ⟨q1, q2, q3, q4, q5, q6⟩
    · rw [e0] at hz10
      obtain ⟨b1, b2, b3, cell, c1, c2, c3, c4, c5⟩ := a4 z hz10
      unfold jx_Cl
      rw [e0]
      exact ⟨b1, b2, b3, cell, c1, c2, c3, c4, fun i hi => ⟨(c5 i hi).1, jx_ok1_sub hsub (c5 i hi).2⟩⟩
    · obtain ⟨b1, b2, b3, cell, c1, c2, c3, c4, c5⟩ := a4 z q1
      have ecnt : jx_cnt (g'.2 z).1 (g'.2 z).2 = jx_cnt (g.2 z).1 (g.2 z).2 := by
        unfold jx_cnt
        rw [q3, q4]
        by_cases w : (g.2 z).1 < 40
        · rw [if_pos w, if_pos (q5.mpr w)]
        · rw [if_neg w, if_neg (fun y => w (q5.mp y))]
      have eps : ∀ i, jx_ps D (g'.2 z).1 i = jx_ps D (g.2 z).1 i := fun i => by
        unfold jx_ps
        rw [q3]
        by_cases w : (g.2 z).1 < 40
        · rw [if_pos w, if_pos (q5.mpr w)]
        · rw [if_neg w, if_neg (fun y => w (q5.mp y))]
      refine ⟨b1, fun _ => b2 q2, by rw [q4]; exact b3, cell, c1, by rw [q3]; exact c2, c3, fun w => by rw [q4]; exact c4 (q5.mp w), fun i hi => ?_⟩
      rw [ecnt] at hi
      obtain ⟨x1, x2⟩ := c5 i hi
      obtain ⟨y1, y2⟩ := q6 i hi
      rw [eps, y1]
      exact ⟨x1, y2 x2⟩
  intro T hT X
  obtain ⟨t, w1, w2⟩ := h p e s m args below meth c C H locs a hR' (jx_ok_sub hsub hl) (jx_ok_sub hsub hs) hL hf h1 h2 T hT X
  exact ⟨t, w1, jx_Q_mono hsub w2⟩
end JO
