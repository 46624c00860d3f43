/-! THE MACHINE BY NUMBERS, 17: the search for a handler, catch classes cold or warm -/
set_option maxRecDepth 100000
/-- what the search comes to, and the tables that it leaves -/
def jx_FT (e : Env) (s : State) (f : JFrame) (a : Addr) (h : Handler) (vm' : Vm) : Prop :=
  ∀ (Q : Handler → Pre) (E : CtlPost) (d : Bool) (acts : List Action), wp (findHandler f a) Q E e d acts s ↔ Q h d acts (s.setVm vm')
/-- one row that covers the place and names a class -/
theorem jx_go_row {Q : Handler → Pre} {E : CtlPost} {e : Env} {d : Bool} {acts : List Action} {s : State} {f : JFrame} {a : Addr} {x : ExceptionTableEntry} {t : List ExceptionTableEntry} {c : ClassId} {cell : Cell} (hx : covers x f.pc = true) (h0 : x.catchType ≠ 0)
    (hl : s.vm.ClassLinks e.platform f.method.cls x.catchType c) (hcell : s.heap[a]? = some cell) (hobj : ∀ k, cell.vm ≠ .statics k) (hk : ∃ k, s.vm.classes[cell.cls]? = some k) (hc : ∃ k, s.vm.classes[c]? = some k) :
    wp (findHandler.go f a (x :: t)) Q E e d acts s ↔ if s.vm.assignable cell.cls c = true then Q (.found x.handlerPc) d acts (s.setVm (s.vm.noted f.method.cls x.catchType (.cls c))) else wp (findHandler.go f a t) Q E e d acts (s.setVm (s.vm.noted f.method.cls x.catchType (.cls c))) := by
  simp only [covers] at hx
  obtain ⟨ha, ht⟩ := (resolveClass_links e.toSetting hl).op (op := VmOp.resolveClass f.method.cls x.catchType) rfl
  have hal : s.vm.Alike (s.vm.noted f.method.cls x.catchType (.cls c)) := (Vm.Alike.refl s.vm).noted _ _ _
  obtain ⟨k1, hk1⟩ := hk
  obtain ⟨k2, hk2⟩ := hc
  obtain ⟨k1', hk1', -⟩ := hal.2.2 _ _ hk1
  obtain ⟨k2', hk2', -⟩ := hal.2.2 _ _ hk2
  cases hfit : s.vm.assignable cell.cls c with
  | true =>
    have hfit' : (s.vm.noted f.method.cls x.catchType (.cls c)).assignable cell.cls c = true := by rw [hal.assignable]; exact hfit
    simp [findHandler.go, hx, h0, ha, ht, hcell, hobj, hk1', hk2', hfit', VmOp.dirties, VmOp.acts]
  | false =>
    have hfit' : (s.vm.noted f.method.cls x.catchType (.cls c)).assignable cell.cls c = false := by rw [hal.assignable]; exact hfit
    simp [findHandler.go, hx, h0, ha, ht, hcell, hobj, hk1', hk2', hfit', VmOp.dirties, VmOp.acts]
def jx_pk (pc : Nat) (fit : ExceptionTableEntry → Bool) : List ExceptionTableEntry → Handler
  | [] => .none
  | x :: t => if covers x pc && fit x then .found x.handlerPc else jx_pk pc fit t
theorem jx_goes {e : Env} {s₀ : State} {f : JFrame} {a : Addr} {cell : Cell} {fit : ExceptionTableEntry → Bool} (hobj : ∀ k, cell.vm ≠ .statics k) (hk0 : ∃ k, s₀.vm.classes[cell.cls]? = some k) :
    ∀ (L : List ExceptionTableEntry) (S : State), s₀.WarmedH S.vm → S.heap[a]? = some cell → (∀ y ∈ L, covers y f.pc = true → y.catchType ≠ 0 ∧ ∃ c, s₀.vm.ClassLinks e.platform f.method.cls y.catchType c ∧ s₀.vm.assignable cell.cls c = fit y) →
      ∃ vm', s₀.WarmedH vm' ∧ ∀ (Q : Handler → Pre) (E : CtlPost) (d : Bool) (acts : List Action), wp (findHandler.go f a L) Q E e d acts S ↔ Q (jx_pk f.pc fit L) d acts (S.setVm vm') := by
  obtain ⟨k0, hk0⟩ := hk0
  intro L
  induction L with
  | nil =>
    intro S hW _ _
    exact ⟨S.vm, hW, fun Q E d acts => by rw [W.findHandler_go_nil, State.setVm_self]; rfl⟩
  | cons y ys ih =>
    intro S hW hcell hL
    have hrest : ∀ z ∈ ys, covers z f.pc = true → z.catchType ≠ 0 ∧ ∃ c, s₀.vm.ClassLinks e.platform f.method.cls z.catchType c ∧ s₀.vm.assignable cell.cls c = fit z := fun z hz => hL z (List.mem_cons_of_mem _ hz)
    cases hcov : covers y f.pc with
    | false =>
      obtain ⟨vm', hW', hq⟩ := ih S hW hcell hrest
      refine ⟨vm', hW', fun Q E d acts => ?_⟩
      have e1 : jx_pk f.pc fit (y :: ys) = jx_pk f.pc fit ys := by
        show (if covers y f.pc && fit y then _ else _) = _
        rw [hcov]
        rfl
      rw [W.findHandler_go_skip hcov, hq, e1]
    | true =>
      obtain ⟨h0, c, hl, hf⟩ := hL y List.mem_cons_self hcov
      obtain ⟨k0', hk0', -⟩ := hW.alike.2.2 _ _ hk0
      obtain ⟨dk, _, _, kt, hd, _, _, _, _, hkt, _, hopen⟩ := hl.here
      obtain ⟨kt', hkt', -⟩ := hW.alike.2.2 _ _ hkt
      have hW1 : s₀.WarmedH (S.vm.noted f.method.cls y.catchType (.cls c)) := hW.noted hd hopen (State.rightAt_cls hl)
      have hasg : S.vm.assignable cell.cls c = fit y := by rw [hW.alike.assignable]; exact hf
      cases hfy : fit y with
      | true =>
        refine ⟨_, hW1, fun Q E d acts => ?_⟩
        have e1 : jx_pk f.pc fit (y :: ys) = .found y.handlerPc := by
          show (if covers y f.pc && fit y then _ else _) = _
          rw [hcov, hfy]
          rfl
        rw [jx_go_row hcov h0 (hW.classLinks hl) hcell hobj ⟨k0', hk0'⟩ ⟨kt', hkt'⟩, hasg, hfy, if_pos rfl, e1]
      | false =>
        obtain ⟨vm', hW', hq⟩ := ih (S.setVm (S.vm.noted f.method.cls y.catchType (.cls c))) hW1 hcell hrest
        refine ⟨vm', hW', fun Q E d acts => ?_⟩
        have e1 : jx_pk f.pc fit (y :: ys) = jx_pk f.pc fit ys := by
          show (if covers y f.pc && fit y then _ else _) = _
          rw [hcov, hfy]
          rfl
        rw [jx_go_row hcov h0 (hW.classLinks hl) hcell hobj ⟨k0', hk0'⟩ ⟨kt', hkt'⟩, hasg, hfy, if_neg (by decide), hq, e1]
        exact Iff.rfl
/-- the handler is found: on at its place -/
theorem jx_caught {tb : Tables} {e : Env} {s target : State} {g : JFrame} {c : Code} {below : List Frame} {a : Addr} (h : At s g.method c below) {pc : Nat} {vm' : Vm} (hfind : jx_FT e ((s.setTop g).pushFrame (.throwing a)) g a (.found pc) vm')
    (hrest : Steps tb e below ((s.setVm vm').setTop { g with pc := pc, stack := [.ref a] }) target) : Steps tb e below ((s.setTop g).pushFrame (.throwing a)) target := by
  obtain ⟨hgo, hw⟩ := h.throwing a
  have hIs : (stepThrowing e ((s.setTop g).pushFrame (.throwing a)) a (.java g :: s.frames.tail)).Is ((((s.setTop g).pushFrame (.throwing a)).setVm vm').setFrames (.java { g with pc := pc, stack := [.ref a] } :: s.frames.tail)) [] := by
    simp only [stepThrowing, searchFrame, vmDo]
    generalize hr : Sem.go _ e false [] ((s.setTop g).pushFrame (.throwing a)) = res
    obtain ⟨as, rfl, ha⟩ := Sem.eq_ok_of hr (a := Handler.found pc) (s' := ((s.setTop g).pushFrame (.throwing a)).setVm vm') (acts' := []) (by simp [hfind _ _ _ _])
    exact ⟨rfl, ha⟩
  refine Steps.head hgo hw ?_
  rw [stepThread_throwing (frames_entered h.top _), hIs.1]
  obtain ⟨g₀, hg⟩ := Option.isSome_iff_exists.mp h.top
  obtain ⟨r, hr⟩ := State.topJava?_eq_some.mp hg
  have hr' : (s.setVm vm').frames = .java g₀ :: r := hr
  have hfl : ∀ (u : State) (F G : List Frame), ((u.setFrames F).setVm vm').setFrames G = (u.setVm vm').setFrames G := fun u F G => by
    rw [show (u.setFrames F).setVm vm' = (u.setVm vm').setFrames F from rfl, State.setFrames_setFrames]
  rw [State.setTop_of_frames _ hr'] at hrest
  rw [hr, List.tail_cons, State.pushFrame, hfl, State.setTop_of_frames _ hr, hfl]
  exact hrest
/-- none is found: the method ends -/
theorem jx_left {tb : Tables} {e : Env} {s : State} {g : JFrame} {c : Code} {below : List Frame} {a : Addr} {meth : Method} (h : At s g.method c below) (hm : s.vm.method? g.method = some meth) (hl : meth.locks = false) (hlocked : g.locked = none) (hentered : g.entered = []) {vm' : Vm} (hm' : vm'.method? g.method = some meth) (htl : s.frames.tail = below)
    (hfind : jx_FT e ((s.setTop g).pushFrame (.throwing a)) g a .none vm') : Steps tb e below ((s.setTop g).pushFrame (.throwing a)) ((s.setVm vm').setFrames (.throwing a :: below)) := by
  obtain ⟨hgo, hw⟩ := h.throwing a
  have hIs : (stepThrowing e ((s.setTop g).pushFrame (.throwing a)) a (.java g :: s.frames.tail)).Is ((((s.setTop g).pushFrame (.throwing a)).setVm vm').setFrames (.throwing a :: s.frames.tail)) [] := by
    simp only [stepThrowing, searchFrame, vmDo]
    generalize hr : Sem.go _ e false [] ((s.setTop g).pushFrame (.throwing a)) = res
    obtain ⟨as, rfl, ha⟩ := Sem.eq_ok_of hr (a := Handler.none) (s' := ((s.setTop g).pushFrame (.throwing a)).setVm vm') (acts' := []) (by cases hp : e.platform.frameOwnsMonitors <;> simp [hfind _ _ _ _, hm', hl, hlocked, hentered, hp, leaveIfLocked])
    exact ⟨rfl, ha⟩
  refine Steps.head hgo hw ?_
  rw [stepThread_throwing (frames_entered h.top _), hIs.1]
  obtain ⟨g₀, hg⟩ := Option.isSome_iff_exists.mp h.top
  obtain ⟨r, hr⟩ := State.topJava?_eq_some.mp hg
  have hfl : ∀ (u : State) (F G : List Frame), ((u.setFrames F).setVm vm').setFrames G = (u.setVm vm').setFrames G := fun u F G => by
    rw [show (u.setFrames F).setVm vm' = (u.setVm vm').setFrames F from rfl, State.setFrames_setFrames]
  rw [State.pushFrame, hfl, State.setTop_of_frames _ hr, hfl, htl]
  exact Steps.refl _

/-! handlers of LoopLane -/
def jx_cn1 : Nat → String
  | 189 => "java/lang/NullPointerException"
  | 191 => "java/lang/ClassCastException"
  | 193 => "java/lang/ArrayIndexOutOfBoundsException"
  | 195 => "java/lang/ArithmeticException"
  | 442 => "java/lang/NegativeArraySizeException"
  | 448 => "java/lang/IndexOutOfBoundsException"
  | _ => "LoopLane$Refusal"
def jx_ct (c : Nat) : Prop := c = 189 ∨ c = 191 ∨ c = 193 ∨ c = 195 ∨ c = 442 ∨ c = 448 ∨ c = 315
theorem jx_ct_link {c : Nat} (h : jx_ct c) : Cond.classLink "LoopLane" c (jx_cn1 c) ∈ lw_all := by
  rcases h with rfl | rfl | rfl | rfl | rfl | rfl | rfl
  · exact q804
  · exact q738
  · exact q829
  · exact q1032
  · exact q782
  · exact q865
  · exact q108
def jx_fit (x : Int) (c : Nat) : Bool := if x = 1 then c == 189 else if x = 2 then c == 191 else if x = 3 then (c == 193 || c == 448) else if x = 4 then c == 195 else if x = 5 then c == 442 else c == 315
theorem jx_pos {D : jx_D} {s : State} {a b : String} {ca cb : ClassId} (hE : jx_En D s) (hm : Cond.castable a b ∈ jx_nl) (ha : s.vm.findClass a = some ca) (hb : s.vm.findClass b = some cb) : s.vm.assignable ca cb = true := by
  obtain ⟨c1, t1, r1, r2, r3⟩ := Cond.castable_spec (hE.2.2.1 _ hm)
  cases ha.symm.trans r1
  cases hb.symm.trans r2
  exact r3
theorem jx_neg {D : jx_D} {s : State} {a b : String} {ca cb : ClassId} (hE : jx_En D s) (hm : Cond.not (.castable a b) ∈ flatC (Jvm.Cond.and given_1 narrow_1)) (ha : s.vm.findClass a = some ca) (hb : s.vm.findClass b = some cb) : s.vm.assignable ca cb = false := by
  obtain ⟨c1, t1, r1, r2, r3⟩ := hE.2.2.2.1 a b hm
  cases ha.symm.trans r1
  cases hb.symm.trans r2
  exact r3
def jx_cpos (a b : String) : Bool := (a == b) || (a == "java/lang/ArrayIndexOutOfBoundsException" && b == "java/lang/IndexOutOfBoundsException")
