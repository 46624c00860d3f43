/-! THE MACHINE BY NUMBERS, 26: a native's throw, up to the note in the invoker's frame -/
set_option maxRecDepth 100000
section XM
variable {p : Program} {l : Launch} {e : Env} {R : Room} {s : State} {m : MethodId} {args : Array Value} {below : List Frame} {meth : Method} {c : Code} {T : State} {locs : List Loc} {cells slots : Nat} {D : jx_D}
set_option maxHeartbeats 4000000 in
theorem jx_note_nat {nf : NFrame} (hna : nf.awaiting = false) (hnl : nf.locked = none) (hnw : nf.words = 0) {X : String} {names : List String} {text : String} {g : JFrame} {k : Nat} (Y : Stand p l e R s m args below meth c T locs cells slots) (hexec : p.tables.exec = Jvm.exec) (htr : e.platform.stackTraces = false)
    (hX : Bundle.fit X = true) (hnames : ∀ n ∈ names, Bundle.fit n = true) (hsoe : (X == "java/lang/StackOverflowError") = false) (hoom : (X == "java/lang/OutOfMemoryError") = false) (h : ∀ w ∈ jx_mw X names, w.before args s = true)
    (hz1 : va_Zq "java/lang/Throwable" "UNASSIGNED_STACK" "[Ljava/lang/StackTraceElement;" (fun _ => False) s D.2.2) (hz2 : va_Zq "java/lang/Throwable" "SUPPRESSED_SENTINEL" "Ljava/util/List;" (fun _ => False) s D.2.2) (hH : ∀ q : Nat, q < D.2.2.size → T.heap[q]? = D.2.2[q]?)
    (htext : (text == notModelled) = false) (hk : (stringBytes (stringToUtf16 text)).size ≤ k) (hlimit : k ≤ e.platform.arrayLengthLimit) (hheap : k * componentBytes .byte ≤ e.platform.maxHeapBytes)
    (hg : g.method = m) (hsize : g.locals.size = c.maxLocals) (hRf : names.length + 5 < R.frames) (hRl : 2 * g.monitorRoom + (g.stack.map fun v => v.category).sum + 10240 ≤ R.locals) (hsh : 13 * names.length + 55 ≤ 10240) (hRc : cells + 3 ≤ R.cells) (hRs : slots + (k + 10) ≤ R.slots) :
    ∃ (T2 : State) (L : List Loc) (n : Nat) (cell : Cell), Stand p l e R s m args below meth c T2 (locs ++ L) (cells + 3) n ∧ n ≤ slots + (k + 10) ∧ (∀ q ∈ L, q.base = T.heap.size + 2) ∧ T2.heap.size = T.heap.size + 3 ∧ (∀ q, q < T.heap.size → T2.heap[q]? = T.heap[q]?) ∧ T2.heap[T.heap.size + 2]? = some cell ∧
      cell.vm.isStatics = false ∧ s.vm.findClass X = some cell.cls ∧ ∀ target, Steps p.tables e below ((T2.setTop g).pushFrame (.throwing (T.heap.size + 2))) target → Steps p.tables e below (((T.setTop g).pushFrame (.native nf)).pushFrame (.throwNew X (some text) none)) target := by
  have howns : e.platform.frameOwnsMonitors = true := by rw [Y.admits.platform]
  have hfin : e.platform.finalization = false := by rw [Y.admits.platform]
  have hpl : e.platform.magicAccessors = ({} : Platform).magicAccessors := by rw [Y.admits.platform]
  have hsl := fun (k : ClassId) (q : MethodId) => Launch.admits_selectMethod Y.admits s.vm k q
  have hb : ∀ w ∈ jx_xw X 6, w.before args s = true := fun w hw => h w (by simp only [jx_mw, List.mem_append]; exact Or.inr (Or.inr (Or.inr (Or.inr (Or.inl hw)))))
  obtain ⟨Tc, Z0, L, -, Q⟩ := ThrowableC.of_atoms (args := args) howns hfin hpl (fun w hw => h w (by simp only [jx_mw, List.mem_append]; exact Or.inl hw))
  obtain ⟨Z, Mc, LZ, LM, hnZ⟩ := Init0T.ofS_atoms (args := args) hpl L Q (fun w hw => h w (by simp only [jx_mw, List.mem_append]; exact Or.inr (Or.inl hw)))
  obtain ⟨P1, Ps, hlen, L1, hL, hP1m, hlink1, hlink⟩ := Bundle.chainS (args := args) hpl hnZ names X hX hnames (fun w hw => h w (by simp only [jx_mw, List.mem_append]; exact Or.inr (Or.inr (Or.inl hw))))
  obtain ⟨Zs, LZs, hn4, hfitv, hfitc⟩ := StringT.of_atoms (args := args) (fun w hw => h w (by simp only [jx_mw, List.mem_append]; exact Or.inr (Or.inr (Or.inr (Or.inl hw)))))
  have hfound : s.vm.findClass X = some P1.m.cls := findClass_of_methodNamed hP1m
  obtain ⟨c1, kX, hc1, hkX, hord, -, -, hn6⟩ := Cond.instantiable_spec (hb (.instantiable X 6) (by simp [jx_xw]))
  cases hc1.symm.trans hfound
  have hinit := Cond.initialized_spec hfound hkX (hb (.initialized X) (by simp [jx_xw]))
  have hctor : kX.findMethod "<init>" "(Ljava/lang/String;)V" = some P1.m.idx := findMethod_of_methodNamed hP1m hkX
  have hsel0 := jx_sel hsl hfound Q.fill0 Q.fill0 (by decide) (hb (.selects X Bundle.tFill0 Bundle.tFill0) (by simp [jx_xw]))
  have hselF := jx_sel hsl hfound Q.fill Q.fill (by decide) (h (.selects X Bundle.tFill Bundle.tFill) (by simp [jx_mw]))
  obtain ⟨cellS, hcS, hiss, u0, hu0⟩ := jx_zq hz1 hH Q.unassigned L.statics
  obtain ⟨cellS', hcS', -, sen, hsen⟩ := jx_zq hz2 hH Q.sentinel L.statics
  cases hcS.symm.trans hcS'
  obtain ⟨iM, hffM⟩ := Q.msg
  obtain ⟨ci, i198, fB, hk198, hg198, ha198, hsB, -, hnB, htB, hffB⟩ := Cond.ownField (t := .object "java/lang/Object") Q.found L.cls (by decide +kernel) (hb (.fieldLink Bundle.tN 198 Bundle.tN "backtrace" "Ljava/lang/Object;") (by simp [jx_xw])) (hb (.lays Bundle.tN Bundle.tN "backtrace" "Ljava/lang/Object;") (by simp [jx_xw])) e.platform hpl
  obtain ⟨tyC, dC, hdC, hdnC⟩ := Cond.laysAt hfound hkX Q.cause (hb (.lays X Bundle.tN "cause" "Ljava/lang/Throwable;") (by simp [jx_xw]))
  obtain ⟨tyS, dS, hdS, hdnS⟩ := Cond.laysAt hfound hkX Q.stack (hb (.lays X Bundle.tN "stackTrace" Bundle.steD) (by simp [jx_xw]))
  obtain ⟨tyP, dP, hdP, hdnP⟩ := Cond.laysAt hfound hkX Q.supp (hb (.lays X Bundle.tN "suppressedExceptions" Bundle.listD) (by simp [jx_xw]))
  obtain ⟨tyM, dM, hdM, hdnM⟩ := Cond.laysAt hfound hkX hffM (h (.lays X Bundle.tN "detailMessage" "Ljava/lang/String;") (by simp [jx_mw]))
  obtain ⟨tyB, dB, hdB, hdnB⟩ := Cond.laysAt hfound hkX hffB (hb (.lays X Bundle.tN "backtrace" "Ljava/lang/Object;") (by simp [jx_xw]))
  have bC := Cond.laysApart hdB hdC hdnB hdnC (by rw [hnB, Q.causeName]; decide)
  have bS := Cond.laysApart hdB hdS hdnB hdnS (by rw [hnB, Q.stackName]; decide)
  have bP := Cond.laysApart hdB hdP hdnB hdnP (by rw [hnB, Q.suppName]; decide)
  have hskip : SkipFacts Tc e.platform s (fun u => u) u0 ((preparedCellV Tc.toThrowableT (freshCell P1.m.cls kX) (T.heap.size + 2) u0 sen).withEntry T.cur) := by
    refine ⟨{ ci198 := ci, i198 := i198, fBack := fB }, ⟨hk198, hg198, ha198, hsB⟩, ?_, fun _ _ => rfl⟩
    have hd := fresh_default (c := P1.m.cls) tyB
    rw [htB] at hd
    simpa [preparedCellV, Cell.setSlot, Cell.withEntry, Array.getElem?_setIfInBounds, bC, bS, bP, bC.symm, bS.symm, bP.symm, defaultValue] using hd
  have hAt : At T g.method c below := by rw [hg]; exact Y.here
  obtain ⟨g₀, hfr0⟩ := Y.frames_eq
  have hcur : T.cur < T.threads.size := State.cur_lt_of_frames hfr0
  have hA := Y.stackAbove hsize hRl
  rw [Y.tail] at hA
  have hlimit2 : (e.platform.stackLimits T.me).2 = (e.platform.limitsFor T.me.stackBytes).2 := rfl
  have hb0 : ((((T.setFrames (.throwNew X (some text) none :: .native nf :: .java g :: below)).threads[T.cur]?).map (·.stackBytes)).getD 0) = T.me.stackBytes := by
    rw [← State.stackBytes_setFrames T (.throwNew X (some text) none :: .native nf :: .java g :: below)]
    exact State.stackBytes_me (T.setFrames (.throwNew X (some text) none :: .native nf :: .java g :: below))
  have hsu2 : (stackUse (.native nf :: .java g :: below)).2 = (stackUse (.java g :: below)).2 := by rw [stackUse_light (.native nf) _ (fun f hf => by cases hf) hnw]
  have hsu1 : (stackUse (.throwNew X (some text) none :: .native nf :: .java g :: below)).2 = (stackUse (.java g :: below)).2 := by rw [stackUse_light _ _ (fun f hf => by cases hf) rfl, hsu2]
  have hbeyond : e.platform.stackBeyond ((((T.setFrames (.throwNew X (some text) none :: .native nf :: .java g :: below)).threads[T.cur]?).map (·.stackBytes)).getD 0) (.throwNew X (some text) none :: .native nf :: .java g :: below) = false := by
    rw [hb0]
    unfold Platform.stackBeyond
    rw [hsu1]
    exact decide_eq_false (by omega)
  have hfreeW : e.platform.vmThrowRoom ≤ e.platform.stackFree ((((T.setFrames (.throwNew X (some text) none :: .native nf :: .java g :: below)).threads[T.cur]?).map (·.stackBytes)).getD 0) (.throwNew X (some text) none :: .native nf :: .java g :: below) := by
    rw [hb0, Launch.admits_vmThrowRoom Y.admits]
    unfold Platform.stackFree
    rw [hsu1]
    omega
  have hfr := Y.framesAbove hRf
  have hwd := Y.stackAbove hsize (K := 13 * names.length + 55) (by omega)
  have hsu := Y.slotsAbove hRs
  rw [Y.tail] at hwd
  obtain ⟨vm', hW', st⟩ := jx_throwB (p := p) (e := e) (s₀ := s) (S := T) (B := .native nf :: .java g :: below) ⟨Y.here.running, Y.here.runnable, Y.here.alone⟩ hcur ⟨[.native nf, .java g], rfl⟩ hexec Tc L Z LZ Mc LM Y.warmed Zs LZs P1 L1 Ps hL hlink1 hlink hsoe hoom hfound hkX hinit hord hctor
    (Launch.admits_hotImplicitExceptions Y.admits) hbeyond hfreeW htext (by omega) (by have := Nat.mul_le_mul_right (componentBytes .byte) hk; omega) (Y.cellsAbove hRc) (by rw [hn4, hn6]; omega) (hfitv _) (hfitc _)
    hsel0 hcS (jx_kn hiss) hu0 (Takes.of_laid hkX hord tyS (by rw [Q.stackType]; exact fits_refV_array _ u0)) hskip htr hselF hsen (Takes.of_laid hkX hord tyC (by rw [Q.causeType]; rfl)) (Takes.of_laid hkX hord tyP (by rw [Q.suppType]; exact fits_refV_object _ sen)) (Takes.of_laid hkX hord tyM (by rw [Q.msgType]; rfl))
    Q.objLocals rfl (by rw [hlen]; rw [hfr0] at hfr; simp only [List.length_cons] at hfr ⊢; omega) (by rw [hlen, hsu2]; omega)
  rw [plainBareV_eq Tc.toThrowableT (T.heap.size + 2) u0 sen (.ref (T.heap.size + 1)) T.cur rfl rfl] at st
  obtain ⟨-, -, w3, w4, w5, -, -⟩ := withThrown_facts e.platform T Zs text P1.m.cls kX
  have Y3 := ((Y.pushed (bytesOf Zs.cB (stringToUtf16 text))).pushed (stringAt Zs.cS Zs.kS Zs.fv Zs.fc (stringToUtf16 text) T.heap.size)).pushed (freshCell P1.m.cls kX)
  rw [← withString_eq] at Y3
  have Y4 := Y3.noted hW'
  have ha : T.heap.size + 2 < ((withThrown T Zs text P1.m.cls kX).setVm vm').heap.size := by show _ < (withThrown T Zs text P1.m.cls kX).heap.size; rw [w3]; omega
  have hcell : ((withThrown T Zs text P1.m.cls kX).setVm vm').heap[T.heap.size + 2]? = some (freshCell P1.m.cls kX) := w4
  have Y5 := ((((Y4.stored hcell Tc.fCause.slot (.ref (T.heap.size + 2))).storedAgain ha Tc.fStack.slot u0.v).storedAgain ha Tc.fSupp.slot sen.v).storedAgain ha Tc.fStack.slot u0.v).storedAgain ha Tc.fMsg.slot (.ref (T.heap.size + 1))
  have b1 : (bytesOf Zs.cB (stringToUtf16 text)).slots.size = (stringBytes (stringToUtf16 text)).size := by
    rw [(Cell.writeAll_facts _ _).2.2]; simp [bytes0]
  have b2 : (stringAt Zs.cS Zs.kS Zs.fv Zs.fc (stringToUtf16 text) T.heap.size).slots.size = 4 := by simp [string0, Cell.setSlot, hn4]
  have b3 : (freshCell P1.m.cls kX).slots.size = 6 := by simp [hn6]
  simp only [List.append_assoc] at Y5
  refine ⟨_, _, _, _, Y5, by rw [b1, b2, b3]; omega, fun q hq => ?_, ?_, fun q hq => ?_, heapAt_setCell_self _ ha, rfl, hfound, fun target hrest => ?_⟩
  · simp only [List.cons_append, List.nil_append, List.mem_cons, List.not_mem_nil, or_false] at hq
    rcases hq with rfl | rfl | rfl | rfl | rfl <;> rfl
  · show (((withThrown T Zs text P1.m.cls kX).setVm vm').setCell _ _).heap.size = _
    rw [show ∀ (u : State) (a : Addr) (x : Cell), (u.setCell a x).heap.size = u.heap.size from fun u a x => by simp [State.setCell]]
    exact w3
  · rw [heapAt_setCell_ne _ (show T.heap.size + 2 ≠ q by omega)]
    exact w5 q hq
  · have e0 : ((T.setTop g).pushFrame (.native nf)).pushFrame (.throwNew X (some text) none) = T.setFrames (.throwNew X (some text) none :: .native nf :: .java g :: below) := by
      have hf1 : ((T.setTop g).pushFrame (.native nf)) = T.setFrames (.native nf :: .java g :: below) := by
        rw [State.pushFrame, State.frames_setTop _ hfr0, State.setTop_of_frames _ hfr0, State.setFrames_setFrames]
      rw [hf1, State.pushFrame, State.frames_setFrames _ hcur, State.setFrames_setFrames]
    rw [e0]
    refine st target ?_
    obtain ⟨g₁, hfrM⟩ := Y5.frames_eq
    rw [State.pushFrame, State.frames_setTop _ hfrM, State.setTop_of_frames _ hfrM, State.setFrames_setFrames] at hrest
    have hY5 := Y5.here
    revert hrest hfrM hY5
    generalize (((withThrown T Zs text P1.m.cls kX).setVm vm').setCell (T.heap.size + 2) _) = V
    intro hrest hfrM hY5
    have hcurV : V.cur < V.threads.size := State.cur_lt_of_frames hfrM
    have hf2 : (V.setFrames (.throwing (T.heap.size + 2) :: .native nf :: .java g :: below)).frames = .throwing (T.heap.size + 2) :: .native nf :: .java g :: below := State.frames_setFrames _ hcurV
    refine Steps.head ⟨hY5.running, by simpa using hY5.runnable, by simpa using hY5.alone⟩ ⟨[.throwing (T.heap.size + 2), .native nf, .java g], by rw [hf2]; rfl, by simp, by simp⟩ ?_
    rw [stepThread_throwing hf2]
    have hst : (stepThrowing e (V.setFrames (.throwing (T.heap.size + 2) :: .native nf :: .java g :: below)) (T.heap.size + 2) (.native nf :: .java g :: below)).1 = V.setFrames (.throwing (T.heap.size + 2) :: .java g :: below) := by
      simp only [stepThrowing, hna, hnl, leaveIfLocked, vmDo]
      show ((V.setFrames (.throwing (T.heap.size + 2) :: .native nf :: .java g :: below)).setFrames (.throwing (T.heap.size + 2) :: .java g :: below)) = _
      rw [State.setFrames_setFrames]
    rw [hst]
    exact hrest
end XM
