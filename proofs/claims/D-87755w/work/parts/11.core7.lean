/-! THE MACHINE BY NUMBERS, 7: contracts and calls -/
set_option maxRecDepth 100000
theorem jx_in_nr {t k : Nat} (h : jx_in t k) (ht : 10 ≤ t) (hn : jx_nr t) : 10 ≤ k ∧ jx_nr k := by
  unfold jx_in at h
  unfold jx_nr at hn ⊢
  split at h
  · omega
  · split at h
    · omega
    · omega
theorem jx_ok1_sub {g g' : jx_S} (h : jx_sub g g') {v : jx_A} (hv : jx_ok1 g v) : jx_ok1 g' v := by
  refine ⟨hv.1, fun q => ?_, hv.2.2⟩
  obtain ⟨a1, a2⟩ := hv.2.1 q
  obtain ⟨b1, b2⟩ := jx_in_nr a1 q (hv.2.2 q)
  rw [h _ b1 b2]
  exact ⟨a1, a2⟩
theorem jx_ok_sub {g g' : jx_S} (h : jx_sub g g') {l : List jx_A} (hl : jx_ok g l) : jx_ok g' l := fun v hv => jx_ok1_sub h (hl v hv)
theorem jx_sub_rf {g : jx_S} : jx_sub g g := fun _ _ _ => rfl
theorem jx_sub_tr {a b c : jx_S} (h1 : jx_sub a b) (h2 : jx_sub b c) : jx_sub a c := fun z q r => by
  have e := h1 z q r
  rw [h2 z (by rw [e]; exact q) (by rw [e]; exact r), e]
theorem jx_nw_warm {w : Cond} (hw : jx_nw w = true) {s U : State} (hW : s.WarmedH U.vm) (h : w.before #[] s = true) : w.before #[] U = true := by
  unfold jx_nw at hw
  split at hw
  · exact va_Nw.warmF hW h
  · exact va_Nw.warmM hW h
  · exact va_Nw.warmC hW h
  · exact va_Nw.warmD hW h
  · exact va_AO.moved hW.alike h
  · cases hw
theorem jx_LS_moved {C n d : String} {s U : State} {H : Heap} (hW : s.WarmedH U.vm) (h : jx_LS C n d s H) : jx_LS C n d U H := by
  obtain ⟨c, k, i, f, a, cell, h1, h2, h3, h4, h5, h6, h7, h8, h9⟩ := h
  obtain ⟨k', hi', he⟩ := State.fieldFound?_setVm hW.alike h2
  exact ⟨c, k', i, f, a, cell, by rw [hW.alike.findClass]; exact h1, hi', h3, by rw [he]; exact h4, h5, h6, h7, h8, by rw [he]; exact h9⟩
theorem jx_En_warm {D : jx_D} {s U : State} (h : jx_En D s) (hW : s.WarmedH U.vm) : jx_En D U := by
  obtain ⟨h1, h2, h3, h4, h5, h6, h7, h8, h9⟩ := h
  refine ⟨fun k q hq => u_Kn_moved hW.alike (h1 k q hq), fun k ty hk => ?_, fun w hw => jx_nw_warm (List.mem_filter.mp hw).2 hW (h3 w hw), fun C T hC => va_Nc.moved hW.alike (h4 C T hC), va_Zq.moved hW.alike h5, va_Zq.moved hW.alike h6, by
    have e : U.vm.modules = s.vm.modules := by rw [hW.alike.1]
    unfold modulesRight_1
    rw [e]
    exact h7, jx_LS_moved hW h8, jx_LS_moved hW h9⟩
  obtain ⟨a1, kA, comp, a2, a3, a4⟩ := h2 k ty hk
  obtain ⟨k', hk', he⟩ := hW.alike.2.2 _ _ a2
  refine ⟨by rw [hW.alike.findClass]; exact a1, k', comp, hk', by rw [he]; exact a3, fun C hC => ?_⟩
  obtain ⟨b1, kc, b2⟩ := a4 C hC
  obtain ⟨kc', b3, -⟩ := hW.alike.2.2 _ _ b2
  exact ⟨by rw [hW.alike.findClass]; exact b1, kc', b3⟩
theorem jx_lw_warm {args a : Array Value} {s U : State} (h : ∀ w ∈ lw_all, w.before args s = true) (hW : s.WarmedH U.vm) : ∀ w ∈ lw_all, w.before a U = true :=
  fun w hw => word_at hW (good_of_word (List.mem_filter.mp hw).2) (h w hw)
/-- A CONTRACT -/
def jx_Ct (l : Launch) (y : MethodName) (ws : List Cond) (d kc ks : Nat) (S : jx_Sp) : Prop := ∀ (D : jx_D) (as : List jx_A) (g : jx_S) (M : jx_M) (Po : jx_Po), S as g M Po →
  MetFree l y (headSpec ws (jx_rm d kc ks)) (fun a U => a = (as.map jx_cv).toArray ∧ l.flags = flags0 ∧ jx_En D U ∧ jx_R D g M U.heap ∧ jx_ok g as) (fun _ _ _ _ _ => True) (fun _ s o t => jx_E D (jx_sq g Po) kc ks s o t)
def jx_ov (v : jx_A) : Option Value := if v.1 = 3 then none else some (jx_cv v)
/-- what a call comes to -/
def jx_CR (D : jx_D) (l : Launch) (own : String) (d : Nat) (i : Instr) (n kc ks : Nat) (as : List jx_A) (g : jx_S) (M : jx_M) (Po : jx_Po) : Prop := as.length = n ∧
  ∀ (p : Program) (e : Env) (R : Room) (s : State) (m : MethodId) (args : Array Value) (below : List Frame) (meth : Method) (c : Code) (T : State) (locs : List Loc) (cells slots : Nat), Stand p l e R s m args below meth c T locs cells slots →
    p.tables.exec = Jvm.exec → s.vm.findClass own = some m.cls → (∀ w ∈ lw_all, w.before args s = true) → jx_En D s → l.flags = flags0 → jx_R D g M T.heap → jx_ok g as →
    8 + d ≤ R.frames → 20000 + 100 * d ≤ R.locals → cells + kc ≤ R.cells → slots + ks ≤ R.slots →
    ∀ (f : JFrame) (rest : List Value), f.method = m → f.locals.size = c.maxLocals → f.stack = (as.map jx_cv).reverse ++ rest → 2 * f.monitorRoom + (rest.map fun v => v.category).sum ≤ 30 → decode c.code f.pc = .ok (i, 3) →
    ∃ (v : jx_A) (g' : jx_S) (M' : jx_M) (T' : State) (L : List Loc), jx_sub g g' ∧ Po v g' M' ∧ jx_R D g' M' T'.heap ∧ jx_ok1 g' v ∧ jx_xo g' s T'.heap v ∧ (∀ q ∈ L, D.2.2.size ≤ q.base) ∧ Stand p l e R s m args below meth c T' (locs ++ L) (cells + kc) (slots + ks) ∧
      ((v.1 ≠ 4 ∧ ∀ t, Steps p.tables e below (T'.setTop { f with pc := f.pc + 3, stack := (jx_ov v).toList ++ rest }) t → Steps p.tables e below (T.setTop f) t) ∨
       (v.1 = 4 ∧ ∀ t, Steps p.tables e below ((T'.setTop { f with stack := rest }).pushFrame (.throwing v.2.2.toNat)) t → Steps p.tables e below (T.setTop f) t))
def jx_CS (D : jx_D) (l : Launch) (own : String) (d : Nat) (i : Instr) (n kc ks : Nat) (S : jx_Sp) : Prop := ∀ (as : List jx_A) (g : jx_S) (M : jx_M) (Po : jx_Po), S as g M Po → jx_CR D l own d i n kc ks as g M Po
/-- the way from the instruction into the callee -/
def jx_Go (D : jx_D) (l : Launch) (own : String) (i : Instr) (y : MethodName) (as : List jx_A) (g : jx_S) : Prop :=
  ∀ (p : Program) (e : Env) (R : Room) (s : State) (m : MethodId) (args : Array Value) (below : List Frame) (meth : Method) (c : Code) (T : State) (locs : List Loc) (cells slots : Nat) (M : jx_M), Stand p l e R s m args below meth c T locs cells slots →
    p.tables.exec = Jvm.exec → s.vm.findClass own = some m.cls → (∀ w ∈ lw_all, w.before args s = true) → jx_En D s → jx_R D g M T.heap → jx_ok g as →
    ∀ (f : JFrame) (rest : List Value), f.method = m → f.stack = (as.map jx_cv).reverse ++ rest → decode c.code f.pc = .ok (i, 3) →
    ∃ (vm₁ : Vm) (mk : MethodId), Stand p l e R s m args below meth c (T.setVm vm₁) locs cells slots ∧ (T.setVm vm₁).methodNamed? y = some mk ∧
      ∀ target, (∀ acts, Steps p.tables e below (doInvoke e ((T.setVm vm₁).setTop { f with stack := rest }) acts mk (as.map jx_cv).toArray).1 target) → Steps p.tables e below (T.setTop f) target
theorem jx_oc_ov {v : jx_A} (h : v.1 ≠ 4) : jx_oc v = .returned (jx_ov v) := by
  obtain ⟨t, n, z⟩ := v
  have h : t ≠ 4 := h
  unfold jx_oc jx_ov
  split
  · rename_i q
    simp at q
    simp [q.1]
  · rename_i q
    simp at q
    exact absurd q.1 h
  · rename_i q1 q2
    have : t ≠ 3 := fun z => q1 n _ (by rw [z])
    simp [this]
theorem jx_heap_setTop (T : State) (f : JFrame) : (T.setTop f).heap = T.heap := by simp [State.setTop, State.modifyTopJava]
theorem jx_heap_push (T : State) (f : JFrame) (a : Addr) : ((T.setTop f).pushFrame (.throwing a)).heap = T.heap := by simp [State.pushFrame, State.setFrames, State.setTop, State.modifyTopJava]
/-- the code of y by its word: code or codeWith -/
def jx_hasCode (y : MethodName) (nL : Nat) : Prop := ∀ (a : Array Value) (U : State), (∀ w ∈ lw_all, w.before a U = true) → ∀ mk, U.methodNamed? y = some mk → ∃ methY cY, U.vm.method? mk = some methY ∧ methY.code = some cY ∧ cY.maxLocals = nL
theorem jx_hasCode_c {y : MethodName} {b : ByteArray} {nL : Nat} {r : Option FieldType} (h : Cond.code y b nL r ∈ lw_all) : jx_hasCode y nL := fun a U hU mk hmk => by
  obtain ⟨methY, cY, hmY, hcY, -, hlY, -, -, -, -⟩ := Cond.code_spec hmk (hU _ h)
  exact ⟨methY, cY, hmY, hcY, hlY⟩
theorem jx_hasCode_w {y : MethodName} {b : ByteArray} {nL : Nat} {r : Option FieldType} {hh : List (Nat × Nat × Nat × Nat)} (h : Cond.codeWith y b nL r hh ∈ lw_all) : jx_hasCode y nL := fun a U hU mk hmk => by
  obtain ⟨m, methY, cY, h0, hmY, hcY, -, hlY, -⟩ := Cond.codeWith_spec (hU _ h)
  cases hmk.symm.trans h0
  exact ⟨methY, cY, hmY, hcY, hlY⟩
/-- a call; the callee's arguments may bear other tags (as') -/
theorem jx_CR_re {D : jx_D} {l : Launch} {own : String} {d d' : Nat} {i : Instr} {n kc ks nL : Nat} {y : MethodName} {ws : List Cond} {S : jx_Sp} {as as' : List jx_A} {g : jx_S} {M : jx_M} {Po : jx_Po} (hM : jx_Ct l y ws d' kc ks S) (hS : S as' g M Po) (hcv : as'.map jx_cv = as.map jx_cv) (hok' : jx_ok g as → jx_ok g as') (hn : as.length = n) (hdd : d' < d) (hnL : nL ≤ 40)
    (hws : ∀ w ∈ ws, w ∈ lw_all) (hcode : jx_hasCode y nL) (hinit : Cond.initialized y.cls ∈ lw_all) (hgo : jx_Go D l own i y as g) : jx_CR D l own d i n kc ks as g M Po := by
  refine ⟨hn, ?_⟩
  intro p e R s m args below meth c T locs cells slots X hx hown hts hE hfl hR hok hRf hRl hRc hRs f rest hf hsize hstack hW hdg
  obtain ⟨vm₁, mk, X₁, hmk, hsteps⟩ := hgo p e R s m args below meth c T locs cells slots M X hx hown hts hE hR hok f rest hf hstack hdg
  have hWs : s.WarmedH (T.setVm vm₁).vm := X₁.warmed
  obtain ⟨g0, hg0⟩ : ∃ g0 : JFrame, g0 = { f with stack := rest } := ⟨_, rfl⟩
  have hg0m : g0.method = m := by rw [hg0]; exact hf
  obtain ⟨U, hU⟩ : ∃ U, U = T.setVm vm₁ := ⟨_, rfl⟩
  rw [← hU] at X₁ hmk hsteps hWs
  rw [← hg0] at hsteps
  obtain ⟨a, ha⟩ : ∃ a : Array Value, a = (as.map jx_cv).toArray := ⟨_, rfl⟩
  rw [← ha] at hsteps
  obtain ⟨methY, cY, hmY, hcY, hlY⟩ := hcode a U (jx_lw_warm hts hWs) mk hmk
  obtain ⟨kY, hkY, -⟩ := className_of_methodNamed hmk
  have hinitY : kY.init = .initialized := Cond.initialized_spec (args := a) (findClass_of_methodNamed hmk) hkY (jx_lw_warm hts hWs _ hinit)
  have h : At U g0.method c below := by rw [hg0m]; exact X₁.here
  have hdg0 : decode c.code g0.pc = .ok (i, 3) := by rw [hg0]; exact hdg
  have hsize0 : g0.locals.size = c.maxLocals := by rw [hg0]; exact hsize
  have hmon : 2 * g0.monitorRoom + (g0.stack.map fun v => v.category).sum ≤ 30 := by rw [hg0]; exact hW
  have happ : (headSpec ws (jx_rm d' kc ks)).appliesLoose y e.platform (U.calling g0 mk a) = true :=
    Spec.appliesLoose_calling (g := g0) h hdg0 hmk hkY hinitY
      (X₁.room_calling (g := g0) (R' := (headSpec ws (jx_rm d' kc ks)).room) hsize0 hmY hcY (by show 8 + d' + 1 ≤ R.frames; omega) (by rw [hlY]; show _ + (nL + 11) + (20000 + 100 * d') ≤ R.locals; omega) hRc hRs) (atoms_intro fun w hw => jx_lw_warm hts hWs w (hws w hw))
  obtain ⟨mid, hmid⟩ := h.above
  have hfr : (U.setTop g0).frames = (.java g0 :: mid) ++ below := by rw [State.frames_setTop' g0 h.top, hmid]; rfl
  have hUh : U.heap = T.heap := by rw [hU]; rfl
  obtain ⟨o, s₂, hst, hrun, hend, hq⟩ := Steps.callFree (hM D as' g M Po hS) p X.admits X.cas X.clock (acts := []) hfr happ ⟨by rw [hcv]; exact ha, hfl, jx_En_warm hE (U := U.calling g0 mk a) (by exact hWs), by show jx_R D g M (U.setTop g0).heap; rw [jx_heap_setTop, hUh]; exact hR, hok' hok⟩ trivial
  have hend : Ended s₂ (.java g0 :: below) o := by
    rw [State.frames_setTop' g0 h.top, X₁.tail] at hend
    exact hend
  obtain ⟨⟨v, g', M', e1, ⟨e2, e3⟩, e4, e5, e6⟩, hWa, L, hsame, hL⟩ := hq
  have e6' : jx_xo g' s s₂.heap v := fun q => by
    obtain ⟨q1, q2, cell, q3, q4, q5⟩ := e6 q
    refine ⟨q1, q2, cell, q3, q4, ?_⟩
    have q5 : U.vm.findClass (jx_xn v.2.1) = some cell.cls := q5
    rw [← q5]
    exact (hWs.alike.findClass _ _).symm
  by_cases h4 : v.1 = 4
  · have ho : o = .threw v.2.2.toNat := by
      rw [e1]
      obtain ⟨t, q1, q2⟩ := v
      have h4 : t = 4 := h4
      subst h4
      rfl
    rw [ho] at hend
    obtain ⟨T', X', -, -, ht⟩ := X₁.outOfThrown (g := g0) hg0m (mk := mk) (a := a) hend hWa hsame
    have hh : T'.heap = s₂.heap := by rw [ht, jx_heap_push]
    refine ⟨v, g', M', T', L, e2, e3, by rw [hh]; exact e4, e5, by rw [hh]; exact e6', hL, X', Or.inr ⟨h4, fun t ht' => hsteps t fun acts => ?_⟩⟩
    rw [doInvoke_state]
    refine hst.trans ?_
    rw [ht, hg0]
    exact ht'
  · rw [jx_oc_ov h4] at e1
    rw [e1] at hend
    obtain ⟨T', X', -, -, ht⟩ := X₁.outOf (g := g0) hg0m hdg0 (mk := mk) (a := a) hend hWa hsame
    have hh : T'.heap = s₂.heap := by rw [ht, jx_heap_setTop]
    refine ⟨v, g', M', T', L, e2, e3, by rw [hh]; exact e4, e5, by rw [hh]; exact e6', hL, X', Or.inl ⟨h4, fun t ht' => hsteps t fun acts => ?_⟩⟩
    rw [doInvoke_state]
    refine hst.trans ?_
    rw [ht, hg0]
    exact ht'
theorem jx_CR_of {D : jx_D} {l : Launch} {own : String} {d d' : Nat} {i : Instr} {n kc ks nL : Nat} {y : MethodName} {ws : List Cond} {S : jx_Sp} {as : List jx_A} {g : jx_S} {M : jx_M} {Po : jx_Po} (hM : jx_Ct l y ws d' kc ks S) (hS : S as g M Po) (hn : as.length = n) (hdd : d' < d) (hnL : nL ≤ 40)
    (hws : ∀ w ∈ ws, w ∈ lw_all) (hcode : jx_hasCode y nL) (hinit : Cond.initialized y.cls ∈ lw_all) (hgo : jx_Go D l own i y as g) : jx_CR D l own d i n kc ks as g M Po := jx_CR_re hM hS rfl (fun h => h) hn hdd hnL hws hcode hinit hgo
