/-! THE MACHINE BY NUMBERS, 10: a method's contract out of its walk; the ways into a callee -/
set_option maxRecDepth 100000
/-- the locals at a method's start -/
def jx_en : List jx_A → Nat → List jx_A
  | [], n => List.replicate n (5, 0, 0)
  | (1, q, z) :: as, n + 2 => (1, q, z) :: (5, 0, 0) :: jx_en as n
  | v :: as, n + 1 => v :: jx_en as n
  | _ :: _, 0 => []
def jx_wd : List jx_A → Nat
  | [] => 0
  | (1, _, _) :: as => jx_wd as + 2
  | _ :: as => jx_wd as + 1
theorem jx_c2 {v : jx_A} : (jx_cv v).category = 2 ↔ v.1 = 1 := by
  constructor
  · intro h
    by_cases h1 : v.1 = 1
    · exact h1
    · have := jx_cat v h1
      omega
  · intro h
    obtain ⟨t, n, z⟩ := v
    have h : t = 1 := h
    subst h
    rfl
theorem jx_wd_len : ∀ as : List jx_A, (lg_sl (as.map jx_cv)).length = jx_wd as
  | [] => rfl
  | (t, n, z) :: as => by
    have ih := jx_wd_len as
    unfold lg_sl at ih ⊢
    rw [List.map_cons, List.flatMap_cons, List.length_append, ih]
    by_cases h : t = 1
    · subst h
      show _ = jx_wd as + 2
      rw [if_pos (jx_c2.mpr rfl)]
      simp
      omega
    · rw [if_neg (fun q => h (jx_c2.mp q))]
      have : jx_wd ((t, n, z) :: as) = jx_wd as + 1 := by
        match t, h with
        | 0, _ => rfl
        | t + 2, _ => rfl
      rw [this]
      simp
      omega
theorem jx_en_len : ∀ (as : List jx_A) (n : Nat), jx_wd as ≤ n → (jx_en as n).length = n
  | [], n, _ => by simp [jx_en]
  | (t, q, z) :: as, n, h => by
    by_cases h1 : t = 1
    · subst h1
      have h : jx_wd as + 2 ≤ n := h
      obtain ⟨m, rfl⟩ : ∃ m, n = m + 2 := ⟨n - 2, by omega⟩
      show ((1, q, z) :: (5, 0, 0) :: jx_en as m).length = m + 2
      simp [jx_en_len as m (by omega)]
    · have hw : jx_wd ((t, q, z) :: as) = jx_wd as + 1 := by
        match t, h1 with
        | 0, _ => rfl
        | t + 2, _ => rfl
      rw [hw] at h
      obtain ⟨m, rfl⟩ : ∃ m, n = m + 1 := ⟨n - 1, by omega⟩
      have e : jx_en ((t, q, z) :: as) (m + 1) = (t, q, z) :: jx_en as m := by
        match t, h1 with
        | 0, _ => rfl
        | t + 2, _ => rfl
      rw [e]
      simp [jx_en_len as m (by omega)]
theorem jx_en_spec : ∀ (as : List jx_A) (n j k : Nat) (v : jx_A), (jx_en as n)[k]? = some v → v.1 ≠ 5 → v ∈ as ∧ (j + k, jx_cv v) ∈ lv_args j (as.map jx_cv)
  | [], n, j, k, v, h, hv => by
    simp [jx_en, List.getElem?_replicate] at h
    obtain ⟨-, h⟩ := h
    rw [← h] at hv
    exact absurd rfl hv
  | (t, q, z) :: as, n, j, k, v, h, hv => by
    by_cases h1 : t = 1
    · subst h1
      match n, k with
      | 0, k => simp [jx_en] at h
      | 1, 0 =>
        simp [jx_en] at h
        rw [← h]
        exact ⟨List.mem_cons_self, List.mem_cons_self⟩
      | 1, k + 1 =>
        have h : (jx_en as 0)[k]? = some v := by simpa [jx_en] using h
        match as, h with
        | [], h => simp [jx_en] at h
        | (_ :: _), h => simp [jx_en] at h
      | n + 2, 0 =>
        have h : some ((1 : Nat), q, z) = some v := h
        cases h
        exact ⟨List.mem_cons_self, List.mem_cons_self⟩
      | n + 2, 1 =>
        have h : some ((5 : Nat), (0 : Int), (0 : Int)) = some v := h
        cases h
        exact absurd rfl hv
      | n + 2, k + 2 =>
        have h : (jx_en as n)[k]? = some v := h
        obtain ⟨a1, a2⟩ := jx_en_spec as n (j + 2) k v h hv
        refine ⟨List.mem_cons_of_mem _ a1, List.mem_cons_of_mem _ ?_⟩
        show (j + (k + 2), jx_cv v) ∈ lv_args (if (jx_cv (1, q, z)).category = 2 then j + 2 else j + 1) (as.map jx_cv)
        rw [if_pos (jx_c2.mpr rfl), show j + (k + 2) = j + 2 + k by omega]
        exact a2
    · match n, k with
      | 0, k =>
        have e : jx_en ((t, q, z) :: as) 0 = [] := by
          match t, h1 with
          | 0, _ => rfl
          | t + 2, _ => rfl
        rw [e] at h
        simp at h
      | n + 1, k =>
        have e : jx_en ((t, q, z) :: as) (n + 1) = (t, q, z) :: jx_en as n := by
          match t, h1 with
          | 0, _ => rfl
          | t + 2, _ => rfl
        rw [e] at h
        match k with
        | 0 =>
          have h : some (t, q, z) = some v := h
          cases h
          exact ⟨List.mem_cons_self, List.mem_cons_self⟩
        | k + 1 =>
          have h : (jx_en as n)[k]? = some v := h
          obtain ⟨a1, a2⟩ := jx_en_spec as n (j + 1) k v h hv
          refine ⟨List.mem_cons_of_mem _ a1, List.mem_cons_of_mem _ ?_⟩
          show (j + (k + 1), jx_cv v) ∈ lv_args (if (jx_cv (t, q, z)).category = 2 then j + 2 else j + 1) (as.map jx_cv)
          rw [if_neg (fun w => h1 (jx_c2.mp w)), show j + (k + 1) = j + 1 + k by omega]
          exact a2
/-- A CONTRACT out of the walk of the body -/
theorem jx_Ct_body {l : Launch} {y : MethodName} {w0 : Cond} {cc : ByteArray} {nL rc : Nat} {hh : List (Nat × Nat × Nat × Nat)} {d kc ks : Nat} {ret : Option FieldType} {S : jx_Sp} (hy : plainName y.cls = true) (hrt : jx_rt rc ret)
    (hw : ∀ (a : Array Value) (U : State) (m : MethodId), U.methodNamed? y = some m → w0.before a U = true → ∃ meth c, U.vm.method? m = some meth ∧ meth.code = some c ∧ c.code = cc ∧ c.maxLocals = nL ∧ meth.sig.returnType = ret ∧ meth.locks = false ∧ c.exceptionTable.toList.map (fun h => (h.startPc, h.endPc, h.handlerPc, h.catchType)) = hh)
    (hV : ∀ (D : jx_D) (as : List jx_A) (g : jx_S) (M : jx_M) (Po : jx_Po), S as g M Po → jx_wd as ≤ nL ∧ jx_V D l (y.cls, cc, nL, rc, hh, d, kc, ks, y.name) Po 0 (jx_en as nL) [] (0, 0) g M) : jx_Ct l y (w0 :: lw_all) d kc ks S := by
  intro D as g M Po hS
  obtain ⟨hwd, hV⟩ := hV D as g M Po hS
  refine MetFree.of_bodyS (code := cc) (maxLocals := nL) (ret := ret) hy ?_ ?_
  · intro args s m h hn
    obtain ⟨meth, c, h1, h2, h3, h4, h5, h6, -⟩ := hw args s m hn (atoms_spec (ws := w0 :: lw_all) h _ List.mem_cons_self)
    exact ⟨meth, c, h1, h2, h3, h4, h5, h6⟩
  · intro p e s m args below meth c s₁ B hml hP _
    obtain ⟨rfl, hfl, hE, hR, hok⟩ := hP
    have hat := atoms_spec (ws := w0 :: lw_all) B.pre
    obtain ⟨meth', c', h1, h2, -, -, -, -, h7⟩ := hw _ s m B.named (hat _ List.mem_cons_self)
    cases B.method.symm.trans h1
    cases (Stand.of_body B).code.symm.trans h2
    have hts : ∀ w ∈ lw_all, w.before (as.map jx_cv).toArray s = true := fun w h => hat w (List.mem_cons_of_mem _ h)
    have C : jx_C D l (y.cls, cc, nL, rc, hh, d, kc, ks, y.name) p s m (as.map jx_cv).toArray meth c := ⟨B.exec, B.bytes, hml, by rw [B.returns]; exact hrt, B.notSynchronized, findClass_of_methodNamed B.named, hts, hE, hfl, h7, (name_of_methodNamed B.named B.method).1, by have := hR.2.1; exact this, hR.2.2.1⟩
    have hlen : (lg_sl (as.map jx_cv)).length ≤ nL := by rw [jx_wd_len]; exact hwd
    have hl := lv_entry (as.map jx_cv) (n := nL) hlen
    have hLs : jx_Ls ((lg_sl (as.map jx_cv) ++ List.replicate (nL - (lg_sl (as.map jx_cv)).length) Slot.unset).toArray) nL (jx_en as nL) := by
      refine ⟨hl.1, hl.2.1, jx_en_len as nL hwd, fun k v hk hv => ?_⟩
      have := (jx_en_spec as nL 0 k v hk hv).2
      rw [Nat.zero_add] at this
      exact hl.2.2 (k, jx_cv v) this
    have hokl : jx_ok g (jx_en as nL) := jx_ok_of fun k v hk hv => hok v (jx_en_spec as nL 0 k v hk hv).1
    have hh0 : s₁.heap = s.heap := by rw [B.state]; rfl
    have K := hV p e s m (as.map jx_cv).toArray below meth c C s.heap [] _ hR hokl (fun v hv => by simp at hv) hLs (fun q hq => by simp at hq) (Nat.zero_le _) (Nat.zero_le _) s₁ hh0 (Stand.of_body B)
    obtain ⟨t, a1, o, b1, b2, b3⟩ := K
    rw [lg_entry_eq]
    exact ⟨t, o, a1, b1, b2, b3⟩
theorem jx_Ct_c {l : Launch} {y : MethodName} {cc : ByteArray} {nL rc : Nat} {d kc ks : Nat} {ret : Option FieldType} {S : jx_Sp} (hy : plainName y.cls = true) (hrt : jx_rt rc ret)
    (hV : ∀ (D : jx_D) (as : List jx_A) (g : jx_S) (M : jx_M) (Po : jx_Po), S as g M Po → jx_wd as ≤ nL ∧ jx_V D l (y.cls, cc, nL, rc, [], d, kc, ks, y.name) Po 0 (jx_en as nL) [] (0, 0) g M) : jx_Ct l y (ws_ y cc nL ret) d kc ks S := by
  refine jx_Ct_body hy hrt (fun a U m hm hw => ?_) hV
  obtain ⟨meth, c, h1, h2, h3, h4, h5, h6, h7, -⟩ := Cond.code_spec hm hw
  exact ⟨meth, c, h1, h2, h3, h4, h5, h6, by rw [Array.isEmpty_iff] at h7; rw [h7]; rfl⟩
theorem jx_Ct_w {l : Launch} {y : MethodName} {cc : ByteArray} {nL rc : Nat} {hh : List (Nat × Nat × Nat × Nat)} {d kc ks : Nat} {ret : Option FieldType} {S : jx_Sp} (hy : plainName y.cls = true) (hrt : jx_rt rc ret)
    (hV : ∀ (D : jx_D) (as : List jx_A) (g : jx_S) (M : jx_M) (Po : jx_Po), S as g M Po → jx_wd as ≤ nL ∧ jx_V D l (y.cls, cc, nL, rc, hh, d, kc, ks, y.name) Po 0 (jx_en as nL) [] (0, 0) g M) : jx_Ct l y (wsW_ y cc nL ret hh) d kc ks S := by
  refine jx_Ct_body hy hrt (fun a U m hm hw => ?_) hV
  obtain ⟨m', meth, c, h0, h1, h2, h3, h4, h5, h6, h7, -⟩ := Cond.codeWith_spec hw
  cases hm.symm.trans h0
  exact ⟨meth, c, h1, h2, h3, h4, h6, h7, h5⟩
/-- the signature of a method -/
def jx_sg (y : MethodName) (k : Nat) : Prop := ∀ sig, parseMethodDescriptor y.desc = some sig → k = sig.parameters.length
def jx_nmh (c : String) : Prop := c ≠ "java/lang/invoke/MethodHandle" ∧ c ≠ "java/lang/invoke/VarHandle"
/-- the class of the receiver -/
theorem jx_recv {D : jx_D} {s : State} {g : jx_S} {M : jx_M} {H : Heap} {t : Nat} {n a : Int} {q : vw_C} (hE : jx_En D s) (hR : jx_R D g M H) (hok : jx_ok1 g (t, n, a)) (ht : 10 ≤ t) (hq : jx_cl (jx_bk (g.2 a).1) = some q) :
    jx_cv (t, n, a) = .ref a.toNat ∧ ∃ cell : Cell, H[a.toNat]? = some cell ∧ cell.vm.isStatics = false ∧ s.vm.findClass q.1 = some cell.cls ∧ ∃ kB : Class, s.vm.classes[cell.cls]? = some kB := by
  have h1 := (jx_in_nr (hok.2.1 ht).1 ht (hok.2.2 ht)).1
  obtain ⟨b1, b2, b3, cell, c1, c2, c3, -⟩ := hR.2.2.2 a h1
  obtain ⟨hS, hfc, kC, hkC, -⟩ := hE.1 _ _ hq
  exact ⟨jx_cv_ref (by omega) b1, cell, c1, by rw [c3]; rfl, by rw [c2]; exact hfc, kC, by rw [c2]; exact hkC⟩
section GO
variable {D : jx_D} {l : Launch} {own : String} {idx : Nat} {x y : MethodName} {as : List jx_A} {g : jx_S} {t : Nat} {n a : Int} {q : vw_C}
theorem jx_Go_V {b : ByteArray} {nL : Nat} {ret : Option FieldType} {hh : List (Nat × Nat × Nat × Nat)} (ht : 10 ≤ t) (hq : jx_cl (jx_bk (g.2 a).1) = some q) (hlink : Cond.methodLink own idx y ∈ lw_all) (hinst : Cond.instanceMethod y ∈ lw_all) (hsel : Cond.selects q.1 y y ∈ lw_all) (hc : Cond.code y b nL ret ∈ lw_all ∨ Cond.codeWith y b nL ret hh ∈ lw_all) (hlen : jx_sg y as.length) (hy : jx_nmh y.cls) : jx_Go D l own (.invokevirtual idx) y ((t, n, a) :: as) g := by
  intro p e R s m args below meth c T locs cells slots M X hexec hown hts hE hR hok f rest hf hstack hdg
  obtain ⟨ecv, cellB, hcell, hobj, hcls, -⟩ := jx_recv hE hR (hok _ List.mem_cons_self) ht hq
  obtain ⟨mk, methM, hnamed, hmethM, hstM, habM⟩ := Cond.instanceMethod_spec (hts _ hinst)
  have hsigM : parseMethodDescriptor y.desc = some methM.sig := by
    rcases hc with hc | hc
    · obtain ⟨methM', cM, hmethM', -, -, -, -, -, -, hsigM⟩ := Cond.code_spec hnamed (hts _ hc)
      cases hmethM.symm.trans hmethM'
      exact hsigM
    · obtain ⟨m', methM', cM, h0, hmethM', -, -, -, -, -, -, hsigM⟩ := Cond.codeWith_spec (hts _ hc)
      cases hnamed.symm.trans h0
      cases hmethM.symm.trans hmethM'
      exact hsigM
  obtain ⟨c2, r2, m2, q1, q2, q3, q4, kP, hkP, hkPi⟩ := Cond.selects_spec (hts _ hsel)
  cases hcls.symm.trans q1
  cases (State.methodFound?_of_named hnamed hy).symm.trans q2
  cases hnamed.symm.trans q3
  have hselP : selectMethod e.platform s.vm cellB.cls mk = .method mk := by rw [Launch.admits_selectMethod X.admits]; exact q4
  obtain ⟨vm₁, X₁, hstep₁⟩ := X.invokevirtual hexec hown (hts _ hlink) hnamed hmethM hstM hkP hkPi hy (a := a.toNat) (cell := cellB) hcell
    (fun z h => by rw [h] at hobj; cases hobj) hselP hmethM habM hkP hkPi (g := f) hf (argsL := as.map jx_cv) (rest := rest) (by rw [List.length_map]; exact hlen _ hsigM) (by rw [hstack, List.map_cons, ecv, List.reverse_cons, List.append_assoc]; rfl) hdg
  refine ⟨vm₁, mk, X₁, X₁.named hnamed, fun target h => hstep₁ target ?_⟩
  rw [List.map_cons, ecv] at h
  exact h
theorem jx_Go_U {b : ByteArray} {nL : Nat} {ret : Option FieldType} {owner : String} (ht : 10 ≤ t) (hq : jx_cl (jx_bk (g.2 a).1) = some q) (hlink : Cond.methodLink own idx x ∈ lw_all) (hsame : Cond.sameMethod x.cls owner x.name x.desc ∈ lw_all)
    (hdecl : (Cond.instanceMethod ⟨owner, x.name, x.desc⟩ ∈ lw_all ∧ Cond.code ⟨owner, x.name, x.desc⟩ b nL ret ∈ lw_all) ∨ Cond.declares ⟨owner, x.name, x.desc⟩ ∈ jx_nl) (howner : jx_nmh owner) (hsel : Cond.selects q.1 x y ∈ lw_all) (hinst : Cond.instanceMethod y ∈ lw_all) (hlen : jx_sg x as.length) : jx_Go D l own (.invokevirtual idx) y ((t, n, a) :: as) g := by
  intro p e R s m args below meth c T locs cells slots M X hexec hown hts hE hR hok f rest hf hstack hdg
  obtain ⟨ecv, cellB, hcell, hobj, hcls, -⟩ := jx_recv hE hR (hok _ List.mem_cons_self) ht hq
  have hd0 : va_Decl s ⟨owner, x.name, x.desc⟩ := by
    rcases hdecl with ⟨h1, h2⟩ | h1
    · exact va_Decl.of (hts _ h1) (hts _ h2)
    · exact va_Decl.abs (hE.2.2.1 _ h1)
  obtain ⟨r0, r, hn, hrm, hstR, hsigR⟩ := hd0
  obtain ⟨cn, ck, r1, hcn, hck, hni, hf1, hn1⟩ := Cond.sameMethod_found (hts _ hsame)
  cases hn.symm.trans hn1
  obtain ⟨mk, methM, hnamed, hmethM, -, habM⟩ := Cond.instanceMethod_spec (hts _ hinst)
  obtain ⟨c2, r2, m2, q1, q2, q3, q4, kP, hkP, hkPi⟩ := Cond.selects_spec (hts _ hsel)
  cases hcls.symm.trans q1
  cases hf1.symm.trans q2
  cases hnamed.symm.trans q3
  have hselP : selectMethod e.platform s.vm cellB.cls r0 = .method mk := by rw [Launch.admits_selectMethod X.admits]; exact q4
  obtain ⟨vm₁, X₁, hstep₁⟩ := X.invokevirtualUp hexec hown (hts _ hlink) (hts _ hsame) howner hn hrm hstR (a := a.toNat) (cell := cellB) hcell
    (fun z h => by rw [h] at hobj; cases hobj) hselP hmethM habM hkP hkPi (g := f) hf (argsL := as.map jx_cv) (rest := rest) (by rw [List.length_map]; exact hlen _ hsigR) (by rw [hstack, List.map_cons, ecv, List.reverse_cons, List.append_assoc]; rfl) hdg
  refine ⟨vm₁, mk, X₁, X₁.named hnamed, fun target h => hstep₁ target ?_⟩
  rw [List.map_cons, ecv] at h
  exact h
theorem jx_Go_S {b : ByteArray} {nL : Nat} {ret : Option FieldType} (hlink : Cond.methodLink own idx y ∈ lw_all) (hstat : Cond.static y ∈ lw_all) (hinit : Cond.initialized y.cls ∈ lw_all) (hc : Cond.code y b nL ret ∈ lw_all) (hlen : jx_sg y as.length) (hy : jx_nmh y.cls) : jx_Go D l own (.invokestatic idx) y as g := by
  intro p e R s m args below meth c T locs cells slots M X hexec hown hts hE hR hok f rest hf hstack hdg
  obtain ⟨mk, hnamed⟩ := Cond.code_named (hts _ hc)
  obtain ⟨methM, cM, hmethM, -, -, -, -, -, -, hsigM⟩ := Cond.code_spec hnamed (hts _ hc)
  have hstatic : methM.isStatic = true := Cond.static_spec hnamed hmethM (hts _ hstat)
  obtain ⟨kP, hkP, -⟩ := className_of_methodNamed hnamed
  have hinitP : kP.init = .initialized := Cond.initialized_spec (findClass_of_methodNamed hnamed) hkP (hts _ hinit)
  obtain ⟨vm₁, X₁, hstep₁⟩ := X.invokestatic hexec hown (hts _ hlink) hnamed hmethM hstatic hkP hinitP hy (g := f) hf (argsL := as.map jx_cv) (rest := rest) (by rw [List.length_map]; exact hlen _ hsigM) hstack hdg
  exact ⟨vm₁, mk, X₁, X₁.named hnamed, hstep₁⟩
end GO
