/-! THE MACHINE BY NUMBERS, 19: the VM's own throws, up to the note that something is thrown in this frame -/
set_option maxRecDepth 100000
section XN
variable {D : jx_D} {p : Program} {l : Launch} {e : Env} {R : Room} {s : State} {m : MethodId} {args : Array Value} {below : List Frame} {meth : Method} {c : Code} {T : State} {locs : List Loc} {cells slots : Nat}
/-- what a static of Throwable holds, in the heap at hand -/
theorem jx_zq {H : Heap} {C n d : String} {cf : ClassId} {kf : Class} {fi : Nat} {f : Field} {a : Nat} (h : va_Zq C n d (fun _ => False) s D.2.2) (hH : ∀ q : Nat, q < D.2.2.size → H[q]? = D.2.2[q]?) (hf : s.fieldFound? C n d = some (cf, kf, fi, f)) (ha : kf.statics = some a) :
    ∃ cell : Cell, H[a]? = some cell ∧ cell.vm.isStatics = true ∧ ∃ u : RefV, cell.slots[f.slot]? = some u.v := by
  have go : ∀ v, va_Z C n d v (fun _ => False) s D.2.2 → ∃ cell : Cell, H[a]? = some cell ∧ cell.vm.isStatics = true ∧ cell.slots[f.slot]? = some v := by
    rintro v ⟨cf', kf', fi', f', a', cell, h1, h2, h3, h4, h5, h6, h7, -⟩
    cases hf.symm.trans h1
    cases ha.symm.trans h4
    exact ⟨cell, by rw [hH _ (Array.getElem?_eq_some_iff.mp h5).1]; exact h5, h6, h7⟩
  rcases h with h | ⟨t, h⟩
  · obtain ⟨cell, a1, a2, a3⟩ := go _ h
    exact ⟨cell, a1, a2, ⟨.null, rfl⟩, a3⟩
  · obtain ⟨cell, a1, a2, a3⟩ := go _ h
    exact ⟨cell, a1, a2, ⟨.ref t, rfl⟩, a3⟩
theorem jx_kn {cell : Cell} (h : cell.vm.isStatics = true) : cell.vm ≠ .unknown := fun q => by rw [q] at h; cases h
/-- which method a class of exceptions takes -/
theorem jx_sel {cX : ClassId} {X : String} {y z : MethodName} {iy iz : MethodId} (hpl : ∀ k q, selectMethod e.platform s.vm k q = selectMethod ({} : Platform) s.vm k q) (hf : s.vm.findClass X = some cX) (hy : s.methodNamed? y = some iy) (hz : s.methodNamed? z = some iz) (hn : y.cls ≠ "java/lang/invoke/MethodHandle" ∧ y.cls ≠ "java/lang/invoke/VarHandle")
    (h : (Cond.selects X y z).before args s = true) : selectMethod e.platform s.vm cX iy = .method iz := by
  obtain ⟨c2, r2, m2, q1, q2, q3, q4, -⟩ := Cond.selects_spec h
  cases hf.symm.trans q1
  cases (State.methodFound?_of_named hy hn).symm.trans q2
  cases hz.symm.trans q3
  rw [hpl]
  exact q4
/-- the words of an exception's class -/
def jx_xw (X : String) (n : Nat) : List Cond := [.initialized X, .instantiable X n, .lays X Bundle.tN "cause" "Ljava/lang/Throwable;", .lays X Bundle.tN "stackTrace" Bundle.steD, .lays X Bundle.tN "suppressedExceptions" Bundle.listD,
  .fieldLink Bundle.tN 198 Bundle.tN "backtrace" "Ljava/lang/Object;", .lays Bundle.tN Bundle.tN "backtrace" "Ljava/lang/Object;", .lays X Bundle.tN "backtrace" "Ljava/lang/Object;", .selects X Bundle.tFill0 Bundle.tFill0]
def jx_mw (X : String) (names : List String) : List Cond := Bundle.throwableAtoms ++ (Bundle.throwableSAtoms ++ (Bundle.chainSAtoms X names ++ (Bundle.stringAtoms ++ (jx_xw X 6 ++ [.selects X Bundle.tFill Bundle.tFill, .lays X Bundle.tN "detailMessage" "Ljava/lang/String;"]))))
def jx_pw : List Cond := Bundle.throwableAtoms ++ (Bundle.npeAtoms ++ (Bundle.passAtoms Bundle.nN Bundle.rN 1 LibCode.NullPointerException.Init0.code ++ (Bundle.passAtoms Bundle.rN Bundle.eN 1 LibCode.RuntimeException.Init0.code ++ (Bundle.passAtoms Bundle.eN Bundle.tN 1 LibCode.Exception.Init0.code ++ (jx_xw Bundle.nN 8 ++ [.selects Bundle.nN Bundle.tFill Bundle.nFill])))))
set_option maxHeartbeats 4000000 in
/-- an exception with a message: three new cells, then it is thrown in this frame -/
theorem jx_note_msg {X : String} {names : List String} {text : String} {g : JFrame} {k : Nat} (Y : Stand p l e R s m args below meth c T locs cells slots) (hexec : p.tables.exec = Jvm.exec) (htr : e.platform.stackTraces = false)
    (hX : Bundle.fit X = true) (hnames : ∀ n ∈ names, Bundle.fit n = true) (hsoe : (X == "java/lang/StackOverflowError") = false) (hoom : (X == "java/lang/OutOfMemoryError") = false) (h : ∀ w ∈ jx_mw X names, w.before args s = true)
    (hz1 : va_Zq "java/lang/Throwable" "UNASSIGNED_STACK" "[Ljava/lang/StackTraceElement;" (fun _ => False) s D.2.2) (hz2 : va_Zq "java/lang/Throwable" "SUPPRESSED_SENTINEL" "Ljava/util/List;" (fun _ => False) s D.2.2) (hH : ∀ q : Nat, q < D.2.2.size → T.heap[q]? = D.2.2[q]?)
    (htext : (text == notModelled) = false) (hk : (stringBytes (stringToUtf16 text)).size ≤ k) (hlimit : k ≤ e.platform.arrayLengthLimit) (hheap : k * componentBytes .byte ≤ e.platform.maxHeapBytes)
    (hg : g.method = m) (hsize : g.locals.size = c.maxLocals) (hRf : names.length + 4 < R.frames) (hRl : 2 * g.monitorRoom + (g.stack.map fun v => v.category).sum + 10240 ≤ R.locals) (hsh : 13 * names.length + 55 ≤ 10240) (hRc : cells + 3 ≤ R.cells) (hRs : slots + (k + 10) ≤ R.slots) :
    ∃ (T2 : State) (L : List Loc) (n : Nat) (cell : Cell), Stand p l e R s m args below meth c T2 (locs ++ L) (cells + 3) n ∧ n ≤ slots + (k + 10) ∧ (∀ q ∈ L, q.base = T.heap.size + 2) ∧ T2.heap.size = T.heap.size + 3 ∧ (∀ q, q < T.heap.size → T2.heap[q]? = T.heap[q]?) ∧ T2.heap[T.heap.size + 2]? = some cell ∧
      cell.vm.isStatics = false ∧ s.vm.findClass X = some cell.cls ∧ ∀ target, Steps p.tables e below ((T2.setTop g).pushFrame (.throwing (T.heap.size + 2))) target → Steps p.tables e below ((T.setTop g).pushFrame (.throwNew X (some text) none)) target := by
  have howns : e.platform.frameOwnsMonitors = true := by rw [Y.admits.platform]
  have hfin : e.platform.finalization = false := by rw [Y.admits.platform]
  have hpl : e.platform.magicAccessors = ({} : Platform).magicAccessors := by rw [Y.admits.platform]
  have hsl := fun (k : ClassId) (q : MethodId) => Launch.admits_selectMethod Y.admits s.vm k q
  have hb : ∀ w ∈ jx_xw X 6, w.before args s = true := fun w hw => h w (by simp only [jx_mw, List.mem_append]; exact Or.inr (Or.inr (Or.inr (Or.inr (Or.inl hw)))))
  obtain ⟨Tc, Z0, L, -, Q⟩ := ThrowableC.of_atoms (args := args) howns hfin hpl (fun w hw => h w (by simp only [jx_mw, List.mem_append]; exact Or.inl hw))
  obtain ⟨Z, Mc, LZ, LM, hnZ⟩ := Init0T.ofS_atoms (args := args) hpl L Q (fun w hw => h w (by simp only [jx_mw, List.mem_append]; exact Or.inr (Or.inl hw)))
  obtain ⟨P1, Ps, hlen, L1, hL, hP1m, hlink1, hlink⟩ := Bundle.chainS (args := args) hpl hnZ names X hX hnames (fun w hw => h w (by simp only [jx_mw, List.mem_append]; exact Or.inr (Or.inr (Or.inl hw))))
  obtain ⟨Zs, LZs, hn4, hfitv, hfitc⟩ := StringT.of_atoms (args := args) (fun w hw => h w (by simp only [jx_mw, List.mem_append]; exact Or.inr (Or.inr (Or.inr (Or.inl hw)))))
  have hfound : s.vm.findClass X = some P1.m.cls := findClass_of_methodNamed hP1m
  obtain ⟨c1, kX, hc1, hkX, hord, -, -, hn6⟩ := Cond.instantiable_spec (hb (.instantiable X 6) (by simp [jx_xw]))
  cases hc1.symm.trans hfound
  have hinit := Cond.initialized_spec hfound hkX (hb (.initialized X) (by simp [jx_xw]))
  have hctor : kX.findMethod "<init>" "(Ljava/lang/String;)V" = some P1.m.idx := findMethod_of_methodNamed hP1m hkX
  have hsel0 := jx_sel hsl hfound Q.fill0 Q.fill0 (by decide) (hb (.selects X Bundle.tFill0 Bundle.tFill0) (by simp [jx_xw]))
  have hselF := jx_sel hsl hfound Q.fill Q.fill (by decide) (h (.selects X Bundle.tFill Bundle.tFill) (by simp [jx_mw]))
  obtain ⟨cellS, hcS, hiss, u0, hu0⟩ := jx_zq hz1 hH Q.unassigned L.statics
  obtain ⟨cellS', hcS', -, sen, hsen⟩ := jx_zq hz2 hH Q.sentinel L.statics
  cases hcS.symm.trans hcS'
  obtain ⟨iM, hffM⟩ := Q.msg
  obtain ⟨ci, i198, fB, hk198, hg198, ha198, hsB, -, hnB, htB, hffB⟩ := Cond.ownField (t := .object "java/lang/Object") Q.found L.cls (by decide +kernel) (hb (.fieldLink Bundle.tN 198 Bundle.tN "backtrace" "Ljava/lang/Object;") (by simp [jx_xw])) (hb (.lays Bundle.tN Bundle.tN "backtrace" "Ljava/lang/Object;") (by simp [jx_xw])) e.platform hpl
  obtain ⟨tyC, dC, hdC, hdnC⟩ := Cond.laysAt hfound hkX Q.cause (hb (.lays X Bundle.tN "cause" "Ljava/lang/Throwable;") (by simp [jx_xw]))
  obtain ⟨tyS, dS, hdS, hdnS⟩ := Cond.laysAt hfound hkX Q.stack (hb (.lays X Bundle.tN "stackTrace" Bundle.steD) (by simp [jx_xw]))
  obtain ⟨tyP, dP, hdP, hdnP⟩ := Cond.laysAt hfound hkX Q.supp (hb (.lays X Bundle.tN "suppressedExceptions" Bundle.listD) (by simp [jx_xw]))
  obtain ⟨tyM, dM, hdM, hdnM⟩ := Cond.laysAt hfound hkX hffM (h (.lays X Bundle.tN "detailMessage" "Ljava/lang/String;") (by simp [jx_mw]))
  obtain ⟨tyB, dB, hdB, hdnB⟩ := Cond.laysAt hfound hkX hffB (hb (.lays X Bundle.tN "backtrace" "Ljava/lang/Object;") (by simp [jx_xw]))
  have bC := Cond.laysApart hdB hdC hdnB hdnC (by rw [hnB, Q.causeName]; decide)
  have bS := Cond.laysApart hdB hdS hdnB hdnS (by rw [hnB, Q.stackName]; decide)
  have bP := Cond.laysApart hdB hdP hdnB hdnP (by rw [hnB, Q.suppName]; decide)
  have hskip : SkipFacts Tc e.platform s (fun u => u) u0 ((preparedCellV Tc.toThrowableT (freshCell P1.m.cls kX) (T.heap.size + 2) u0 sen).withEntry T.cur) := by
    refine ⟨{ ci198 := ci, i198 := i198, fBack := fB }, ⟨hk198, hg198, ha198, hsB⟩, ?_, fun _ _ => rfl⟩
    have hd := fresh_default (c := P1.m.cls) tyB
    rw [htB] at hd
    simpa [preparedCellV, Cell.setSlot, Cell.withEntry, Array.getElem?_setIfInBounds, bC, bS, bP, bC.symm, bS.symm, bP.symm, defaultValue] using hd
  have hAt : At T g.method c below := by rw [hg]; exact Y.here
  obtain ⟨hbeyond, hfreeW⟩ := Y.vmMayThrow hsize (.throwNew X (some text) none) (fun f hf => by cases hf) rfl hRl
  have hfr := Y.framesAbove hRf
  have hwd := Y.stackAbove hsize (K := 13 * names.length + 55) (by omega)
  have hsu := Y.slotsAbove hRs
  obtain ⟨vm', hW', st⟩ := Steps.vmThrowsMessageColdByV p (s₀ := s) (S := T) (g := g) hAt hexec Tc L Z LZ Mc LM Y.warmed (t := T.cur) rfl Zs LZs P1 L1 Ps hL hlink1 hlink hsoe hoom hfound hkX hinit hord hctor
    (Launch.admits_hotImplicitExceptions Y.admits) hbeyond hfreeW htext (by omega) (by have := Nat.mul_le_mul_right (componentBytes .byte) hk; omega) (Y.cellsAbove hRc) (by rw [hn4, hn6]; omega) (hfitv _) (hfitc _)
    (Nn := fun u => u) heapOnly_id (fun _ _ => rfl) (fun _ => rfl) (fun u x y => setCell_twice _ _ _ _) (fun _ => Nat.le_refl _) (cN := (preparedCellV Tc.toThrowableT (freshCell P1.m.cls kX) (T.heap.size + 2) u0 sen).withEntry T.cur)
    hsel0 hcS (jx_kn hiss) hu0 (Takes.of_laid hkX hord tyS (by rw [Q.stackType]; exact fits_refV_array _ u0)) (fun _ hu => hu) (fun _ hu => hu) rfl rfl rfl (by simp [preparedCellV, Cell.setSlot, Cell.withEntry]) hskip
    (fun _ _ hA hW _ hroom _ hrest => L.nativeOff p htr hA hW hroom hrest) hselF hsen (Takes.of_laid hkX hord tyC (by rw [Q.causeType]; rfl)) (Takes.of_laid hkX hord tyP (by rw [Q.suppType]; exact fits_refV_object _ sen)) (Takes.of_laid hkX hord tyM (by rw [Q.msgType]; rfl))
    Q.objLocals rfl (by rw [hlen]; omega) (by rw [hlen]; omega)
  rw [plainBareV_eq Tc.toThrowableT (T.heap.size + 2) u0 sen (.ref (T.heap.size + 1)) T.cur rfl rfl] at st
  obtain ⟨-, -, w3, w4, w5, -, -⟩ := withThrown_facts e.platform T Zs text P1.m.cls kX
  have Y3 := ((Y.pushed (bytesOf Zs.cB (stringToUtf16 text))).pushed (stringAt Zs.cS Zs.kS Zs.fv Zs.fc (stringToUtf16 text) T.heap.size)).pushed (freshCell P1.m.cls kX)
  rw [← withString_eq] at Y3
  have Y4 := Y3.noted hW'
  have ha : T.heap.size + 2 < ((withThrown T Zs text P1.m.cls kX).setVm vm').heap.size := by show _ < (withThrown T Zs text P1.m.cls kX).heap.size; rw [w3]; omega
  have hcell : ((withThrown T Zs text P1.m.cls kX).setVm vm').heap[T.heap.size + 2]? = some (freshCell P1.m.cls kX) := w4
  have Y5 := ((((Y4.stored hcell Tc.fCause.slot (.ref (T.heap.size + 2))).storedAgain ha Tc.fStack.slot u0.v).storedAgain ha Tc.fSupp.slot sen.v).storedAgain ha Tc.fStack.slot u0.v).storedAgain ha Tc.fMsg.slot (.ref (T.heap.size + 1))
  have b1 : (bytesOf Zs.cB (stringToUtf16 text)).slots.size = (stringBytes (stringToUtf16 text)).size := by
    rw [(Cell.writeAll_facts _ _).2.2]; simp [bytes0]
  have b2 : (stringAt Zs.cS Zs.kS Zs.fv Zs.fc (stringToUtf16 text) T.heap.size).slots.size = 4 := by simp [string0, Cell.setSlot, hn4]
  have b3 : (freshCell P1.m.cls kX).slots.size = 6 := by simp [hn6]
  simp only [List.append_assoc] at Y5
  refine ⟨_, _, _, _, Y5, by rw [b1, b2, b3]; omega, fun q hq => ?_, ?_, fun q hq => ?_, heapAt_setCell_self _ ha, rfl, hfound, fun target hrest => st target ?_⟩
  · simp only [List.cons_append, List.nil_append, List.mem_cons, List.not_mem_nil, or_false] at hq
    rcases hq with rfl | rfl | rfl | rfl | rfl <;> rfl
  · show (((withThrown T Zs text P1.m.cls kX).setVm vm').setCell _ _).heap.size = _
    rw [show ∀ (u : State) (a : Addr) (x : Cell), (u.setCell a x).heap.size = u.heap.size from fun u a x => by simp [State.setCell]]
    exact w3
  · rw [heapAt_setCell_ne _ (show T.heap.size + 2 ≠ q by omega)]
    exact w5 q hq
  · obtain ⟨g₁, hfrM⟩ := Y5.frames_eq
    rw [State.pushFrame, State.frames_setTop _ hfrM, State.setTop_of_frames _ hfrM, State.setFrames_setFrames] at hrest
    rw [Y.tail]
    exact hrest
set_option maxHeartbeats 4000000 in
/-- a NullPointerException: one new cell -/
theorem jx_note_npe {g : JFrame} (Y : Stand p l e R s m args below meth c T locs cells slots) (hexec : p.tables.exec = Jvm.exec) (htr : e.platform.stackTraces = false) (h : ∀ w ∈ jx_pw, w.before args s = true)
    (hz1 : va_Zq "java/lang/Throwable" "UNASSIGNED_STACK" "[Ljava/lang/StackTraceElement;" (fun _ => False) s D.2.2) (hz2 : va_Zq "java/lang/Throwable" "SUPPRESSED_SENTINEL" "Ljava/util/List;" (fun _ => False) s D.2.2) (hH : ∀ q : Nat, q < D.2.2.size → T.heap[q]? = D.2.2[q]?)
    (hg : g.method = m) (hsize : g.locals.size = c.maxLocals) (hRf : 7 < R.frames) (hRl : 2 * g.monitorRoom + (g.stack.map fun v => v.category).sum + 10240 ≤ R.locals) (hRc : cells + 1 ≤ R.cells) (hRs : slots + 8 ≤ R.slots) :
    ∃ (T2 : State) (L : List Loc) (n : Nat) (cell : Cell), Stand p l e R s m args below meth c T2 (locs ++ L) (cells + 1) n ∧ n ≤ slots + 8 ∧ (∀ q ∈ L, q.base = T.heap.size) ∧ T2.heap.size = T.heap.size + 1 ∧ (∀ q, q < T.heap.size → T2.heap[q]? = T.heap[q]?) ∧ T2.heap[T.heap.size]? = some cell ∧
      cell.vm.isStatics = false ∧ s.vm.findClass "java/lang/NullPointerException" = some cell.cls ∧ ∀ target, Steps p.tables e below ((T2.setTop g).pushFrame (.throwing T.heap.size)) target → Steps p.tables e below ((T.setTop g).pushFrame (.throwNew "java/lang/NullPointerException" none none)) target := by
  have howns : e.platform.frameOwnsMonitors = true := by rw [Y.admits.platform]
  have hfin : e.platform.finalization = false := by rw [Y.admits.platform]
  have hpl : e.platform.magicAccessors = ({} : Platform).magicAccessors := by rw [Y.admits.platform]
  have hpl2 : e.platform.arrayCloneIsPublic = true := by rw [Y.admits.platform]
  have hsl := fun (k : ClassId) (q : MethodId) => Launch.admits_selectMethod Y.admits s.vm k q
  have hb : ∀ w ∈ jx_xw Bundle.nN 8, w.before args s = true := fun w hw => h w (by simp only [jx_pw, List.mem_append]; exact Or.inr (Or.inr (Or.inr (Or.inr (Or.inr (Or.inl hw))))))
  obtain ⟨Tc, Z, L, LZ, Q⟩ := ThrowableC.of_atoms (args := args) howns hfin hpl (fun w hw => h w (by simp only [jx_pw, List.mem_append]; exact Or.inl hw))
  obtain ⟨N, LN, hcN, hnNF, hordN, hffS⟩ := NpeC.of_atoms (args := args) hpl hpl2 L Q (fun w hw => h w (by simp only [jx_pw, List.mem_append]; exact Or.inr (Or.inl hw)))
  obtain ⟨P1, L1, hP1m, hP1s⟩ := PassC.of_atoms (args := args) (s := s) hpl (X := Bundle.nN) (Y := Bundle.rN) (by decide) (by decide) LibCode.NullPointerException.Init0.at_0 LibCode.NullPointerException.Init0.at_1 LibCode.NullPointerException.Init0.at_4 (fun w hw => h w (by simp only [jx_pw, List.mem_append]; exact Or.inr (Or.inr (Or.inl hw))))
  obtain ⟨PR, LR, hPRm, hPRs⟩ := PassC.of_atoms (args := args) (s := s) hpl (X := Bundle.rN) (Y := Bundle.eN) (by decide) (by decide) LibCode.RuntimeException.Init0.at_0 LibCode.RuntimeException.Init0.at_1 LibCode.RuntimeException.Init0.at_4 (fun w hw => h w (by simp only [jx_pw, List.mem_append]; exact Or.inr (Or.inr (Or.inr (Or.inl hw)))))
  obtain ⟨PE, LEx, hPEm, hPEs⟩ := PassC.of_atoms (args := args) (s := s) hpl (X := Bundle.eN) (Y := Bundle.tN) (by decide) (by decide) LibCode.Exception.Init0.at_0 LibCode.Exception.Init0.at_1 LibCode.Exception.Init0.at_4 (fun w hw => h w (by simp only [jx_pw, List.mem_append]; exact Or.inr (Or.inr (Or.inr (Or.inr (Or.inl hw))))))
  have hfound : s.vm.findClass Bundle.nN = some P1.m.cls := findClass_of_methodNamed hP1m
  have ecls : N.cN = P1.m.cls := Option.some.inj (hcN.symm.trans hfound)
  have hkX : s.vm.classes[P1.m.cls]? = some N.kN := by rw [← ecls]; exact LN.cls
  have hinit := Cond.initialized_spec hfound hkX (hb (.initialized Bundle.nN) (by simp [jx_xw]))
  have hctor : N.kN.findMethod "<init>" "()V" = some P1.m.idx := findMethod_of_methodNamed hP1m hkX
  obtain ⟨c1, k1, hc1, hk1, -, -, -, hn⟩ := Cond.instantiable_spec (hb (.instantiable Bundle.nN 8) (by simp [jx_xw]))
  cases hc1.symm.trans hfound
  cases hk1.symm.trans hkX
  have hlink1 : P1.sup = PR.m := Option.some.inj (hP1s.symm.trans hPRm)
  have hlinkR : PR.sup = PE.m := Option.some.inj (hPRs.symm.trans hPEm)
  have hlinkE : PE.sup = Z.m Tc.toThrowableT := Option.some.inj (hPEs.symm.trans Q.init0)
  have hsel0 := jx_sel hsl hfound Q.fill0 Q.fill0 (by decide) (hb (.selects Bundle.nN Bundle.tFill0 Bundle.tFill0) (by simp [jx_xw]))
  have hselF := jx_sel hsl hfound Q.fill hnNF (by decide) (h (.selects Bundle.nN Bundle.tFill Bundle.nFill) (by simp [jx_pw]))
  obtain ⟨cellS, hcS, hiss, u0, hu0⟩ := jx_zq hz1 hH Q.unassigned L.statics
  obtain ⟨cellS', hcS', -, sen, hsen⟩ := jx_zq hz2 hH Q.sentinel L.statics
  cases hcS.symm.trans hcS'
  obtain ⟨ci, i198, fB, hk198, hg198, ha198, hsB, -, hnB, htB, hffB⟩ := Cond.ownField (t := .object "java/lang/Object") Q.found L.cls (by decide +kernel) (hb (.fieldLink Bundle.tN 198 Bundle.tN "backtrace" "Ljava/lang/Object;") (by simp [jx_xw])) (hb (.lays Bundle.tN Bundle.tN "backtrace" "Ljava/lang/Object;") (by simp [jx_xw])) e.platform hpl
  obtain ⟨tyC, dC, hdC, hdnC⟩ := Cond.laysAt hfound hkX Q.cause (hb (.lays Bundle.nN Bundle.tN "cause" "Ljava/lang/Throwable;") (by simp [jx_xw]))
  obtain ⟨tyS, dS, hdS, hdnS⟩ := Cond.laysAt hfound hkX Q.stack (hb (.lays Bundle.nN Bundle.tN "stackTrace" Bundle.steD) (by simp [jx_xw]))
  obtain ⟨tyP, dP, hdP, hdnP⟩ := Cond.laysAt hfound hkX Q.supp (hb (.lays Bundle.nN Bundle.tN "suppressedExceptions" Bundle.listD) (by simp [jx_xw]))
  obtain ⟨tyX, dX, hdX, hdnX⟩ := Cond.laysAt hfound hkX hffS (h (.lays Bundle.nN Bundle.nN "extendedMessageState" "I") (by simp [jx_pw, Bundle.npeAtoms]))
  obtain ⟨tyB, dB, hdB, hdnB⟩ := Cond.laysAt hfound hkX hffB (hb (.lays Bundle.nN Bundle.tN "backtrace" "Ljava/lang/Object;") (by simp [jx_xw]))
  have hnX : N.fState.name = "extendedMessageState" := (State.fieldFound?_type hffS (t := .int) (by decide +kernel)).1
  have bC := Cond.laysApart hdB hdC hdnB hdnC (by rw [hnB, Q.causeName]; decide)
  have bS := Cond.laysApart hdB hdS hdnB hdnS (by rw [hnB, Q.stackName]; decide)
  have bP := Cond.laysApart hdB hdP hdnB hdnP (by rw [hnB, Q.suppName]; decide)
  have bX := Cond.laysApart hdB hdX hdnB hdnX (by rw [hnB, hnX]; decide)
  have hskip : SkipFacts Tc e.platform s (fun u => u) u0 ((npeCell N.toNpeT (preparedCellV Tc.toThrowableT (freshCell P1.m.cls N.kN) T.heap.size u0 sen) T.cur).withEntry T.cur) := by
    refine ⟨{ ci198 := ci, i198 := i198, fBack := fB }, ⟨hk198, hg198, ha198, hsB⟩, ?_, fun _ _ => rfl⟩
    have hd := fresh_default (c := P1.m.cls) tyB
    rw [htB] at hd
    simpa [npeCell, preparedCellV, Cell.setSlot, Cell.withEntry, Array.getElem?_setIfInBounds, bC, bS, bP, bX, bC.symm, bS.symm, bP.symm, bX.symm, defaultValue] using hd
  have hAt : At T g.method c below := by rw [hg]; exact Y.here
  obtain ⟨hbeyond, hfreeW⟩ := Y.vmMayThrow hsize (.throwNew "java/lang/NullPointerException" none none) (fun f hf => by cases hf) rfl hRl
  have hfr := Y.framesAbove hRf
  have hwd := Y.stackAbove hsize (K := 94) (by omega)
  obtain ⟨vm', hW', st⟩ := Steps.vmThrowsNpeColdByV p (s₀ := s) (S := T) (g := g) hAt hexec Tc L Z LZ N LN Y.warmed (t := T.cur) rfl P1 L1 [PR, PE] (fun P hP => by
      simp only [List.mem_cons, List.not_mem_nil, or_false] at hP
      rcases hP with rfl | rfl
      · exact LR
      · exact LEx) hlink1 ⟨hlinkR, hlinkE, trivial⟩ hfound hkX hinit hordN hctor
    (Launch.admits_hotImplicitExceptions Y.admits) hbeyond hfreeW (Y.cellsAbove hRc) (Y.slotsAbove (by rw [hn]; exact hRs))
    (Nn := fun u => u) heapOnly_id (fun _ _ => rfl) (fun _ => rfl) (fun u x y => setCell_twice _ _ _ _) (fun _ => Nat.le_refl _) (cN := (npeCell N.toNpeT (preparedCellV Tc.toThrowableT (freshCell P1.m.cls N.kN) T.heap.size u0 sen) T.cur).withEntry T.cur)
    hsel0 hcS (jx_kn hiss) hu0 (by rw [fresh_default tyX, LN.stateInt]; rfl)
    (Cond.laysApart hdC hdX hdnC hdnX (by rw [Q.causeName, hnX]; decide)) (Cond.laysApart hdS hdX hdnS hdnX (by rw [Q.stackName, hnX]; decide)) (Cond.laysApart hdP hdX hdnP hdnX (by rw [Q.suppName, hnX]; decide))
    (Takes.of_laid hkX hordN tyS (by rw [Q.stackType]; exact fits_refV_array _ u0)) (Takes.of_laid hkX hordN tyX (by rw [LN.stateInt]; rfl)) (fun _ hu => hu) (fun _ hu => hu) rfl rfl rfl (by simp [npeCell, preparedCellV, Cell.setSlot, Cell.withEntry]) hskip
    (fun _ _ hA hW _ hroom _ hrest => L.nativeOff p htr hA hW hroom hrest) hselF hsen (Takes.of_laid hkX hordN tyC (by rw [Q.causeType]; rfl)) (Takes.of_laid hkX hordN tyP (by rw [Q.suppType]; exact fits_refV_object _ sen))
    Q.objLocals rfl (by show T.frames.length + 2 + 5 < _; omega) (by show _ + 13 * 2 + 68 ≤ _; omega)
  rw [npeBareV_eq Tc.toThrowableT N.toNpeT T.heap.size u0 sen T.cur rfl rfl] at st
  have Y2 := (Y.pushed (freshCell P1.m.cls N.kN)).noted hW'
  have hsz : ((T.pushCell (freshCell P1.m.cls N.kN)).setVm vm').heap.size = T.heap.size + 1 := State.heap_size_pushCell _ _
  have ha : T.heap.size < ((T.pushCell (freshCell P1.m.cls N.kN)).setVm vm').heap.size := by rw [hsz]; omega
  have hcell : ((T.pushCell (freshCell P1.m.cls N.kN)).setVm vm').heap[T.heap.size]? = some (freshCell P1.m.cls N.kN) := State.heap_pushCell_size T (freshCell P1.m.cls N.kN)
  have Y5 := ((((Y2.stored hcell Tc.fCause.slot (.ref T.heap.size)).storedAgain ha Tc.fStack.slot u0.v).storedAgain ha Tc.fSupp.slot sen.v).storedAgain ha N.fState.slot (.int 1)).storedAgain ha Tc.fStack.slot u0.v
  have b3 : (freshCell P1.m.cls N.kN).slots.size = 8 := by simp [hn]
  simp only [List.append_assoc] at Y5
  refine ⟨_, _, _, _, Y5, by rw [b3]; omega, fun q hq => ?_, ?_, fun q hq => ?_, heapAt_setCell_self _ ha, rfl, hfound, fun target hrest => st target ?_⟩
  · simp only [List.cons_append, List.nil_append, List.mem_cons, List.not_mem_nil, or_false] at hq
    rcases hq with rfl | rfl | rfl | rfl | rfl <;> rfl
  · rw [show ∀ (u : State) (a : Addr) (x : Cell), (u.setCell a x).heap.size = u.heap.size from fun u a x => by simp [State.setCell]]
    exact hsz
  · rw [heapAt_setCell_ne _ (show T.heap.size ≠ q by omega)]
    show (T.heap.push _)[q]? = _
    rw [Array.getElem?_push, if_neg (by omega)]
  · obtain ⟨g₁, hfrM⟩ := Y5.frames_eq
    rw [State.pushFrame, State.frames_setTop _ hfrM, State.setTop_of_frames _ hfrM, State.setFrames_setFrames] at hrest
    rw [Y.tail]
    exact hrest
end XN
