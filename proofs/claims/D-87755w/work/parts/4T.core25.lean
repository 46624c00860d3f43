/-! THE MACHINE BY NUMBERS, 25: an exception that a native throws -/
set_option maxRecDepth 100000
section XL
variable {p : Program} {l : Launch} {e : Env} {R : Room} {s : State} {m : MethodId} {args : Array Value} {below : List Frame} {meth : Method} {c : Code} {T : State} {locs : List Loc} {cells slots : Nat} {D : jx_D}
theorem jx_insB {B : List Frame} {W : State} (hgo : W.goesOn) (hcur : W.cur < W.threads.size) (hB : ∃ mid, B = mid ++ below) (a str : Addr) {m' : MethodId} {meth' : Method} {code : Code} (hm : W.vm.method? m' = some meth') (hc : meth'.code = some code) (hp : W.plainMethod m') :
    (W.setFrames (.thenThrow a :: B)).frames = .thenThrow a :: B ∧ At ((W.setFrames (.thenThrow a :: B)).pushFrame (.java (passJ m' a (.ref str) 0 []))) m' code below ∧
    ((W.setFrames (.thenThrow a :: B)).pushFrame (.java (passJ m' a (.ref str) 0 []))).frames = .java (passJ m' a (.ref str) 0 []) :: .thenThrow a :: B := by
  have f1 : (W.setFrames (.thenThrow a :: B)).frames = .thenThrow a :: B := State.frames_setFrames _ hcur
  have f2 := State.cur_lt_of_frames f1
  obtain ⟨mid, hB⟩ := hB
  refine ⟨f1, At.pushOn _ ⟨hgo.1, by simpa using hgo.2.1, by simpa using hgo.2.2⟩ f2 ⟨.thenThrow a :: mid, by rw [f1, hB]; rfl⟩ hm hc hp, ?_⟩
  rw [State.pushFrame, State.frames_setFrames _ f2, f1]
/-- the exception's constructor comes to its end, what is under the note stays -/
theorem jx_ctorB {B : List Frame} {s₀ W : State} (hgo : W.goesOn) (hcur : W.cur < W.threads.size) (hB : ∃ mid, B = mid ++ below) (hexec : p.tables.exec = Jvm.exec) (a str : Addr) (y : Cell) (P1 : PassC) (L1 : P1.LinksS e.platform s₀) (hW : s₀.WarmedH W.vm)
    (hroom : e.platform.stackFull (((W.setFrames (.thenThrow a :: B)).threads[(W.setFrames (.thenThrow a :: B)).cur]?).getD { frames := [] }) (W.setFrames (.thenThrow a :: B)).frames 2 = false)
    (hsup : ∀ vm1, s₀.WarmedH vm1 → At (((W.setVm vm1).setFrames (.thenThrow a :: B)).pushFrame (.java (passJ P1.m a (.ref str) 0 []))) P1.m P1.code below → ∃ vm2, s₀.WarmedH vm2 ∧ ∀ t' : State,
      Steps p.tables e below (((((W.setVm vm2).setFrames (.thenThrow a :: B)).pushFrame (.java (passJ P1.m a (.ref str) 0 []))).setCell a y).setTop (passJ P1.m a (.ref str) 5 [])) t' →
      Steps p.tables e below (doInvoke e ((((W.setVm vm1).setFrames (.thenThrow a :: B)).pushFrame (.java (passJ P1.m a (.ref str) 0 []))).setTop (passJ P1.m a (.ref str) 2 [])) [] P1.sup #[.ref a, .ref str]).1 t') :
    ∃ vm', s₀.WarmedH vm' ∧ ∀ target, Steps p.tables e below (((W.setVm vm').setCell a y).setFrames (.throwing a :: B)) target → Steps p.tables e below (doInvoke e (W.setFrames (.thenThrow a :: B)) [] P1.m #[.ref a, .ref str]).1 target := by
  have hmW := hW.methodAt L1.method
  obtain ⟨hfN, hI, hfI⟩ := jx_insB hgo hcur hB a str hmW L1.code (hW.plainAt L1.plain)
  obtain ⟨vm1, hW1, st1⟩ := Steps.invokeInitCold (tb := p.tables) (s₀ := s₀) (U := ((W.setFrames (.thenThrow a :: B)).pushFrame (.java (passJ P1.m a (.ref str) 0 [])))) (f := passJ P1.m a (.ref str) 2 [.ref str, .ref a]) (args := [.ref str]) (rest := []) (a := a) hI hexec L1.at2 hW L1.links L1.right L1.notHandle L1.cls L1.file L1.pool
    L1.supClass L1.supMethod L1.supName L1.supStatic L1.supAbstract L1.supFound L1.supParams.symm rfl
  obtain ⟨vm2, hW2, st2⟩ := hsup vm1 hW1 (hI.setVm (hW.alike.symm.trans hW1.alike))
  refine ⟨vm2, hW2, fun target hrest => ?_⟩
  rw [(doInvoke_java (s := (W.setFrames (.thenThrow a :: B))) (e := e) (acts := []) (args := #[.ref a, .ref str]) (meth := P1.meth) (code := P1.code) hmW L1.code L1.locks (by rw [L1.locals]; exact hroom)).1, L1.locals]
  show Steps p.tables e below ((W.setFrames (.thenThrow a :: B)).pushFrame (.java (passJ P1.m a (.ref str) 0 []))) target
  rw [← State.setTop_self (s := ((W.setFrames (.thenThrow a :: B)).pushFrame (.java (passJ P1.m a (.ref str) 0 [])))) (State.topJava?_of_frames hfI)]
  jvm_step hI [hexec, L1.at0, Value.isRef]
  jvm_step hI [hexec, L1.at1, Value.isRef]
  refine st1 target (st2 target ?_)
  have hgo2 : (W.setVm vm2).goesOn := hgo
  have hm2 : (W.setVm vm2).vm.method? P1.m = some P1.meth := hW2.methodAt L1.method
  obtain ⟨gN, gI, gf⟩ := jx_insB (W := W.setVm vm2) hgo2 hcur hB a str hm2 L1.code (hW2.plainAt (U := W.setVm vm2) L1.plain)
  have hS : At ((((W.setVm vm2).setFrames (.thenThrow a :: B)).pushFrame (.java (passJ P1.m a (.ref str) 0 []))).setCell a y) P1.m P1.code below := (At.setCell_iff _ _).mpr gI
  jvm_step hS [hexec, L1.at5, return_.wp_sem]
  intro acts2
  rw [ret_to (t := (((W.setVm vm2).setFrames (.thenThrow a :: B)).pushFrame (.java (passJ P1.m a (.ref str) 0 []))).setCell a y) (f := passJ P1.m a (.ref str) 5 []) (f₀ := passJ P1.m a (.ref str) 0 []) (below := .thenThrow a :: B) (fs := .thenThrow a :: B) (meth := P1.meth) gf hm2 L1.locks rfl rfl rfl acts2]
  have hset : ∀ F, ((((W.setVm vm2).setFrames (.thenThrow a :: B)).pushFrame (.java (passJ P1.m a (.ref str) 0 []))).setCell a y).setFrames F = ((W.setVm vm2).setCell a y).setFrames F := fun F => by
    rw [State.pushFrame, State.setCell_setFrames, State.setCell_setFrames, State.setFrames_setFrames, State.setFrames_setFrames]
  rw [hset]
  have hcur2 : ((W.setVm vm2).setCell a y).cur < ((W.setVm vm2).setCell a y).threads.size := hcur
  have hf1 : (((W.setVm vm2).setCell a y).setFrames (.thenThrow a :: B)).frames = .thenThrow a :: B := State.frames_setFrames _ hcur2
  obtain ⟨mid, hB⟩ := hB
  refine Steps.head ⟨hgo2.1, by simpa using hgo2.2.1, by simpa using hgo2.2.2⟩ ⟨.thenThrow a :: mid, by rw [hf1, hB]; rfl, by simp, by simp⟩ ?_
  rw [stepThread_thenThrow hf1]
  show Steps p.tables e below ((((W.setVm vm2).setCell a y).setFrames (.thenThrow a :: B)).setFrames (.throwing a :: B)) target
  rw [State.setFrames_setFrames]
  exact hrest
/-- an exception with a message, made by the VM whatever lies under the note -/
theorem jx_throwB {B : List Frame} {s₀ S : State} (hgo : S.goesOn) (hcur : S.cur < S.threads.size) (hB : ∃ mid, B = mid ++ below) (hexec : p.tables.exec = Jvm.exec)
    (Tc : ThrowableC) (L : Tc.Links e.platform s₀) (Z : Init0T) (LZ : Z.LaidS Tc.toThrowableT) (Mc : MsgC) (LM : Mc.Links Tc e.platform s₀) (hW : s₀.WarmedH S.vm) (Zs : StringT) (LZs : Zs.Laid s₀.vm)
    (P1 : PassC) (L1 : P1.LinksS e.platform s₀) (Ps : List PassC) (hL : ∀ P, P ∈ Ps → P.LinksS e.platform s₀) (hlink1 : P1.sup = firstOf (Z.m Tc.toThrowableT) (Ps.map (·.toPassT))) (hlink : PassesOn (Z.m Tc.toThrowableT) (Ps.map (·.toPassT)))
    {cls text : String} {kX : Class} (hsoe : (cls == "java/lang/StackOverflowError") = false) (hoom : (cls == "java/lang/OutOfMemoryError") = false)
    (hfound : s₀.vm.findClass cls = some P1.m.cls) (hk : s₀.vm.classes[P1.m.cls]? = some kX) (hinit : kX.init = .initialized) (hord : kX.kind = .ordinary)
    (hctor : kX.findMethod "<init>" "(Ljava/lang/String;)V" = some P1.m.idx) (hhot : e.platform.hotImplicitExceptions = false)
    (hbeyond : e.platform.stackBeyond (((((S.setFrames (.throwNew cls (some text) none :: B))).threads[S.cur]?).map (·.stackBytes)).getD 0) (.throwNew cls (some text) none :: B) = false)
    (hfreeW : e.platform.vmThrowRoom ≤ e.platform.stackFree (((((S.setFrames (.throwNew cls (some text) none :: B))).threads[S.cur]?).map (·.stackBytes)).getD 0) (.throwNew cls (some text) none :: B))
    (hm : (text == notModelled) = false)
    (hlimit : ¬ (stringBytes (stringToUtf16 text)).size > e.platform.arrayLengthLimit) (hheap : ¬ (stringBytes (stringToUtf16 text)).size * componentBytes .byte > e.platform.maxHeapBytes)
    (hcells : S.heap.size + 3 ≤ e.platform.maxCells) (hslots : S.slotsUsed + (stringBytes (stringToUtf16 text)).size + Zs.kS.instanceTypes.size + kX.instanceTypes.size ≤ e.platform.maxSlots)
    (hfitv : s₀.fitsSlot Zs.cS .none Zs.fv.slot (.ref S.heap.size) = true) (hfitc : s₀.fitsSlot Zs.cS .none Zs.fc.slot (.int (stringCoder (stringToUtf16 text))) = true)
    {u0 sen : RefV} {cellS : Cell} (hsel0 : selectMethod e.platform s₀.vm (freshCell P1.m.cls kX).cls Tc.fill0 = .method Tc.fill0)
    (hcellS : S.heap[Tc.aS]? = some cellS) (hknownS : cellS.vm ≠ .unknown) (hvU : cellS.slots[Tc.fUnassigned.slot]? = some u0.v) (htS : Takes s₀ (freshCell P1.m.cls kX) Tc.fStack u0.v)
    (hskip : SkipFacts Tc e.platform s₀ (fun u => u) u0 ((preparedCellV Tc.toThrowableT (freshCell P1.m.cls kX) (S.heap.size + 2) u0 sen).withEntry S.cur))
    (htr : e.platform.stackTraces = false)
    (hselF : selectMethod e.platform s₀.vm (freshCell P1.m.cls kX).cls Tc.fill = .method Tc.fill) (hvSen : cellS.slots[Tc.fSentinel.slot]? = some sen.v)
    (htC : Takes s₀ (freshCell P1.m.cls kX) Tc.fCause (.ref (S.heap.size + 2))) (htP : Takes s₀ (freshCell P1.m.cls kX) Tc.fSupp sen.v) (htM : Takes s₀ (freshCell P1.m.cls kX) Tc.fMsg (.ref (S.heap.size + 1))) (hobjLocals : Tc.codeObj.maxLocals = 1)
    {lim : Nat × Nat} (hlim : e.platform.stackLimits S.me = lim) (hframes : B.length + Ps.length + 4 < lim.1) (hwords : (stackUse B).2 + 13 * Ps.length + 55 ≤ lim.2) :
    ∃ vm', s₀.WarmedH vm' ∧ ∀ target, Steps p.tables e below ((((withThrown S Zs text P1.m.cls kX).setVm vm').setCell (S.heap.size + 2) ((((preparedCellV Tc.toThrowableT (freshCell P1.m.cls kX) (S.heap.size + 2) u0 sen).withEntry S.cur).setSlot Tc.fStack.slot u0.v).left.setSlot Tc.fMsg.slot (.ref (S.heap.size + 1)))).setFrames (.throwing (S.heap.size + 2) :: B)) target →
      Steps p.tables e below (S.setFrames (.throwNew cls (some text) none :: B)) target := by
  obtain ⟨kX', hk', he'⟩ := hW.alike.2.2 _ _ hk
  have hty : kX'.instanceTypes = kX.instanceTypes := by rw [he']
  have hfresh : freshCell P1.m.cls kX' = freshCell P1.m.cls kX := by
    show ({ cls := P1.m.cls, slots := kX'.instanceTypes.map defaultValue, vm := .none } : Cell) = _
    rw [hty]
  obtain ⟨kS', kB', LZ', htyS⟩ := LZs.warmer hW.alike
  have hsame : withThrown S { Zs with kS := kS', kB := kB' } text P1.m.cls kX' = withThrown S Zs text P1.m.cls kX := by
    rw [← withThrown_warmer S Zs (kB' := kB') htyS text P1.m.cls kX]
    show (withString S _ _ _ _ _ _).pushCell (freshCell P1.m.cls kX') = (withString S _ _ _ _ _ _).pushCell (freshCell P1.m.cls kX)
    rw [hfresh]
  have hfs : (S.setFrames (.throwNew cls (some text) none :: B)).fitsSlot = s₀.fitsSlot := (show (S.setFrames (.throwNew cls (some text) none :: B)).fitsSlot = (s₀.setVm S.vm).fitsSlot from rfl).trans (State.fitsSlot_setVm hW.alike)
  obtain ⟨w1, w2, -, w4, w5, -, w7⟩ := withThrown_facts e.platform S Zs text P1.m.cls kX
  have hltS : Tc.aS < S.heap.size := (Array.getElem?_eq_some_iff.mp hcellS).1
  have hWgo : (withThrown S Zs text P1.m.cls kX).goesOn := ⟨hgo.1, by simpa [withThrown, withString] using hgo.2.1, by simpa [withThrown, withString] using hgo.2.2⟩
  have hWcur0 : (withThrown S Zs text P1.m.cls kX).cur < (withThrown S Zs text P1.m.cls kX).threads.size := hcur
  have hWcur : (withThrown S Zs text P1.m.cls kX).cur = S.cur := by simp [withThrown, withString]
  have hWlim : e.platform.stackLimits (withThrown S Zs text P1.m.cls kX).me = lim := by rw [w7]; exact hlim
  generalize hWW : withThrown S Zs text P1.m.cls kX = W at *
  have hWW1 : s₀.WarmedH W.vm := by rw [w1]; exact hW
  obtain ⟨hfN, -, -⟩ := jx_insB hWgo hWcur0 hB (S.heap.size + 2) (S.heap.size + 1) (hWW1.methodAt L1.method) L1.code (hWW1.plainAt L1.plain)
  have hlimN : e.platform.stackLimits (W.setFrames (.thenThrow (S.heap.size + 2) :: B)).me = lim := by rw [State.stackLimits_setFrames]; exact hWlim
  have hroom := Jvm.roomAbove (pl := e.platform) (u := W.setFrames (.thenThrow (S.heap.size + 2) :: B)) (vars := 2) (pushed := [.thenThrow (S.heap.size + 2)]) (base := B) (free := 13 * Ps.length + 55) (lim := lim) hfN hlimN
    (by simp only [List.length_cons, List.length_nil]; omega) (by omega) (by rw [stackUse_light _ _ (fun f hf => by cases hf) rfl, stackUse_nil]; show 0 + 2 + 11 ≤ _; omega)
  obtain ⟨vm', hW', st⟩ := jx_ctorB (p := p) (e := e) (s₀ := s₀) hWgo hWcur0 hB hexec (S.heap.size + 2) (S.heap.size + 1) ((((preparedCellV Tc.toThrowableT (freshCell P1.m.cls kX) (S.heap.size + 2) u0 sen).withEntry S.cur).setSlot Tc.fStack.slot u0.v).left.setSlot Tc.fMsg.slot (.ref (S.heap.size + 1))) P1 L1 hWW1 hroom (fun vm1 hW1 hI1 => by
    rw [hlink1]
    obtain ⟨-, -, hXfr⟩ := jx_insB (W := W.setVm vm1) hWgo hWcur0 hB (S.heap.size + 2) (S.heap.size + 1) (hW1.methodAt L1.method) L1.code (hW1.plainAt (U := W.setVm vm1) L1.plain)
    have hXvm : ∀ w, (((W.setVm vm1).setFrames (.thenThrow (S.heap.size + 2) :: B)).pushFrame (.java (passJ P1.m (S.heap.size + 2) (.ref (S.heap.size + 1)) 0 []))).setVm w = (((W.setVm w).setFrames (.thenThrow (S.heap.size + 2) :: B)).pushFrame (.java (passJ P1.m (S.heap.size + 2) (.ref (S.heap.size + 1)) 0 []))) := fun w => by rw [State.pushFrame_setVm, State.setFrames_setVm, State.setVm_twice]
    have hXc : (((W.setVm vm1).setFrames (.thenThrow (S.heap.size + 2) :: B)).pushFrame (.java (passJ P1.m (S.heap.size + 2) (.ref (S.heap.size + 1)) 0 []))).heap[S.heap.size + 2]? = some (freshCell P1.m.cls kX) := w4
    have hXS : (((W.setVm vm1).setFrames (.thenThrow (S.heap.size + 2) :: B)).pushFrame (.java (passJ P1.m (S.heap.size + 2) (.ref (S.heap.size + 1)) 0 []))).heap[Tc.aS]? = some cellS := (w5 _ hltS).trans hcellS
    have hXcur : (((W.setVm vm1).setFrames (.thenThrow (S.heap.size + 2) :: B)).pushFrame (.java (passJ P1.m (S.heap.size + 2) (.ref (S.heap.size + 1)) 0 []))).cur = S.cur := hWcur
    have hXW : s₀.WarmedH (((W.setVm vm1).setFrames (.thenThrow (S.heap.size + 2) :: B)).pushFrame (.java (passJ P1.m (S.heap.size + 2) (.ref (S.heap.size + 1)) 0 []))).vm := hW1
    have hXlim : e.platform.stackLimits (((W.setVm vm1).setFrames (.thenThrow (S.heap.size + 2) :: B)).pushFrame (.java (passJ P1.m (S.heap.size + 2) (.ref (S.heap.size + 1)) 0 []))).me = lim := by rw [State.stackLimits_pushFrame, State.stackLimits_setFrames]; exact hWlim
    generalize hXX : (((W.setVm vm1).setFrames (.thenThrow (S.heap.size + 2) :: B)).pushFrame (.java (passJ P1.m (S.heap.size + 2) (.ref (S.heap.size + 1)) 0 []))) = X at hI1 hXfr hXvm hXc hXS hXcur hXW hXlim ⊢
    have hres := Steps.initThrowableSColdByV p (V := X) (g := passJ P1.m (S.heap.size + 2) (.ref (S.heap.size + 1)) 2 []) (c := P1.code) (self := S.heap.size + 2) hI1 hexec Tc L Z LZ Mc LM hXW hXcur heapOnly_id (fun _ _ => rfl) (fun _ => rfl) (fun u x y => setCell_twice _ _ _ _) (fun _ => Nat.le_refl _) (msg := .ref (S.heap.size + 1)) rfl hXc (by intro k hk'; cases hk') (by intro hk'; cases hk') rfl hsel0 hXS (Nat.ne_of_lt (Nat.lt_of_lt_of_le hltS (Nat.le_add_right _ 2))) hknownS hvU htS
      (fun _ hu => hu) (fun _ hu => hu) rfl rfl rfl (by simp [preparedCellV, Cell.setSlot, Cell.withEntry]) hskip (fun _ _ hA hW _ hroom _ hrest => L.nativeOff p htr hA hW hroom hrest) hselF hvSen htC htP htM hobjLocals Ps hL hlink (ig := .invokespecial P1.index) (len := 3) [] hXlim
      (by rw [hXfr]; simp only [List.length_cons]; omega)
      (by rw [hXfr, List.tail_cons, stackUse_java, stackUse_light _ _ (fun f hf => by cases hf) rfl]
          show (stackUse B).2 + (2 + 11 + 2 * 0 + operandWords []) + 13 * Ps.length + 42 ≤ lim.2
          simp only [operandWords, List.foldl_nil]
          omega)
      L1.at2
    obtain ⟨vm2, hW2, st2⟩ := hres
    exact ⟨vm2, hW2, fun t' h' => st2 t' (by rw [hXvm]; exact h')⟩)
  refine ⟨vm', hW', fun target hrest => ?_⟩
  have hf0 : (S.setFrames (.throwNew cls (some text) none :: B)).frames = .throwNew cls (some text) none :: B := State.frames_setFrames _ hcur
  obtain ⟨mid, hB⟩ := hB
  refine Steps.head ⟨hgo.1, by simpa using hgo.2.1, by simpa using hgo.2.2⟩ ⟨.throwNew cls (some text) none :: mid, by rw [hf0, hB]; rfl, by simp, by simp⟩ ?_
  rw [stepThread_throwNew hf0, stepThrowNew_message (s := S.setFrames (.throwNew cls (some text) none :: B)) (c := P1.m.cls) (k := kX') (i := P1.m.idx) { Zs with kS := kS', kB := kB' } LZ' hsoe hoom (by show S.vm.findClass cls = _; rw [hW.alike.findClass]; exact hfound) hk' (by rw [he']; exact hinit) (by rw [he']; exact hord) hhot (by rw [hf0]; exact hbeyond) (by rw [hf0]; exact hfreeW) hm (by rw [he']; exact hctor) hlimit hheap hcells
    (by show S.slotsUsed + _ + kS'.instanceTypes.size + kX'.instanceTypes.size ≤ _; rw [htyS, hty]; exact hslots) (by rw [hfs]; exact hfitv) (by rw [hfs]; exact hfitc)]
  rw [withThrown_setFrames, State.setFrames_setFrames, hsame]
  exact st target hrest
end XL
