/-! THE MACHINE BY NUMBERS, 29: a static method that is inherited -/
set_option maxRecDepth 100000
section XP
theorem jx_is_up {Q : Unit → Pre} {E : CtlPost} {e : Env} {d : Bool} {acts : List Action} {s s₀ : State} {f : JFrame} {index ci n : Nat} {cn : ClassId} {m : MethodId} {dk ck : Class} {cf : ClassFile} {name desc : String} (hs : s.topJava?.isSome) (hp : e.platform.polymorphicOnlyByInvokevirtual = true)
    (hW : s₀.WarmedH s.vm) (hE : s₀.MethodEntryUp e s.vm f.method.cls index cn m ci) (h1 : s₀.vm.classes[f.method.cls]? = some dk) (h2 : dk.cf = some cf)
    (h3 : cf.constantPool[index]? = some (.methodref ci n)) (h4 : cf.constantPool.nameAndType? n = some (name, desc))
    (hck : s₀.vm.classes[cn]? = some ck) (hnone : (ck.methods.any fun x => x.name == name && !x.isStatic && signaturePolymorphic ck x) = false) :
    wp (invokestatic.sem index) Q E e d acts (s.setTop f) ↔ wp (invokestatic.sem index) Q E e d acts ((s.setVm (s.vm.calledUp f.method.cls ci index cn m)).setTop f) := by
  obtain ⟨hgc, hrc, hW₁, hgm⟩ := hE.classFirst
  obtain ⟨k₀, hk₀, he₀⟩ := hW.alike.2.2 _ _ h1
  obtain ⟨k₂, hk₂, he₂⟩ := hE.warmed.alike.2.2 _ _ h1
  obtain ⟨c₁, hc₁, hec₁⟩ := hW₁.alike.2.2 _ _ hck
  obtain ⟨c₂, hc₂, hec₂⟩ := hE.warmed.alike.2.2 _ _ hck
  have hb₀ := memberRef_ask_via (e := e) (via := false) hk₀ (by rw [he₀]; exact h2) h3 h4
  have hb₂ := memberRef_ask_via (e := e) (via := false) hk₂ (by rw [he₂]; exact h2) h3 h4
  have hn₁ : (c₁.methods.any fun x => x.name == name && !x.isStatic && signaturePolymorphic c₁ x) = false := by rw [hec₁]; exact hnone
  have hn₂ : (c₂.methods.any fun x => x.name == name && !x.isStatic && signaturePolymorphic c₂ x) = false := by rw [hec₂]; exact hnone
  have hs₁ : (s.setVm (s.vm.noted f.method.cls ci (.cls cn))).topJava?.isSome := hs
  have hs₂ : (s.setVm (s.vm.calledUp f.method.cls ci index cn m)).topJava?.isSome := hs
  have hL : ∀ {Q' : ClassId → Pre} {d' : Bool} {acts' : List Action}, wp (Jvm.resolveClassAt ci) Q' E e d' acts' (s.setTop f) ↔ Q' cn d' acts' ((s.setVm (s.vm.noted f.method.cls ci (.cls cn))).setTop f) :=
    W.resolveClassAt_links (t := s.setTop f) (State.method?_setTop f hs) hgc
  have hM : ∀ {Q' : MethodId → Pre} {d' : Bool} {acts' : List Action}, wp (Jvm.resolveMethodAt index) Q' E e d' acts' ((s.setVm (s.vm.noted f.method.cls ci (.cls cn))).setTop f) ↔ Q' m d' acts' ((s.setVm (s.vm.calledUp f.method.cls ci index cn m)).setTop f) :=
    W.resolveMethodAt_links (t := (s.setVm (s.vm.noted f.method.cls ci (.cls cn))).setTop f) (State.method?_setTop f hs₁) hgm
  simp [invokestatic.sem, hp, Seam.memberRefOf, State.method?_setTop f hs, State.method?_setTop f hs₂, hb₀, hb₂, hL, W.resolveClassAt_ready (s := (s.setVm (s.vm.calledUp f.method.cls ci index cn m)).setTop f) (State.method?_setTop f hs₂) hE.classReady,
    hc₁, hc₂, hn₁, hn₂, hM, W.resolveMethodAt_ready (s := (s.setVm (s.vm.calledUp f.method.cls ci index cn m)).setTop f) (State.method?_setTop f hs₂) hE.ready, -Array.any_eq_true]
theorem jx_staticUp {p : Program} {l : Launch} {e : Env} {R : Room} {s : State} {m : MethodId} {args : Array Value} {below : List Frame} {meth : Method} {c : Code} {T : State} {locs : List Loc} {cells slots : Nat} (X : Stand p l e R s m args below meth c T locs cells slots) (hexec : p.tables.exec = Jvm.exec)
    {own owner : String} {index : Nat} {x : MethodName} (hown : s.vm.findClass own = some m.cls) (hlink : (Cond.methodLink own index x).before args s = true) (hsame : (Cond.sameMethod x.cls owner x.name x.desc).before args s = true) (howner : owner ≠ "java/lang/invoke/MethodHandle" ∧ owner ≠ "java/lang/invoke/VarHandle")
    {r0 : MethodId} {r : Method} {k' : Class} (hn : s.methodNamed? ⟨owner, x.name, x.desc⟩ = some r0) (hrm : s.vm.method? r0 = some r) (hstatic : r.isStatic = true) (hk' : s.vm.classes[r0.cls]? = some k') (hinit : k'.init = .initialized)
    {g : JFrame} (hg : g.method = m) {argsL rest : List Value} (hlen : argsL.length = r.sig.parameters.length) (hstack : g.stack = argsL.reverse ++ rest) (hdg : decode c.code g.pc = .ok (.invokestatic index, 3)) :
    ∃ vm', Stand p l e R s m args below meth c (T.setVm vm') locs cells slots ∧
      ∀ target, (∀ acts, Steps p.tables e below (doInvoke e ((T.setVm vm').setTop { g with stack := rest }) acts r0 argsL.toArray).1 target) → Steps p.tables e below (T.setTop g) target := by
  have hpl : e.platform.magicAccessors = ({} : Platform).magicAccessors := by rw [X.admits.platform]
  have hpv : e.platform.polymorphicOnlyByInvokevirtual = true := by rw [X.admits.platform]
  obtain ⟨cn, ck, r1, hcn, hck, hni, hf, hn1⟩ := Cond.sameMethod_found hsame
  cases hn.symm.trans hn1
  obtain ⟨ci, hl, hright⟩ := Cond.methodLink_specUp hown hcn hck hni hf hlink e.platform hpl (by rw [X.admits.platform])
  have hE : s.MethodEntryUp e T.vm m.cls index cn r0 ci := State.methodEntryUp X.warmed hl hright
  obtain ⟨kr, hkr, hnr⟩ := className_of_methodNamed hn
  cases hk'.symm.trans hkr
  obtain ⟨dk, cfile, nt, mname, mdesc, ck₀, _, _, hd, hcf, hcp, hnt, -, -, hc₀, -, hpoly, -⟩ := hl.here
  cases hck.symm.trans hc₀
  have alike := hE.warmed.alike
  obtain ⟨dk₂, hdk₂, hed₂⟩ := alike.2.2 _ _ hd
  obtain ⟨k₂, hk₂, he₂⟩ := alike.2.2 _ _ hk'
  obtain ⟨ck₂, hck₂, hec₂⟩ := alike.2.2 _ _ hck
  have hnone : (ck.methods.any fun y => y.name == mname && !y.isStatic && signaturePolymorphic ck y) = false := by simp [hpoly]
  have hnone₂ : (ck₂.methods.any fun y => y.name == mname && !y.isStatic && signaturePolymorphic ck₂ y) = false := by rw [hec₂]; exact hnone
  refine ⟨T.vm.calledUp m.cls ci index cn r0, X.noted hE.warmed, fun target hrest => ?_⟩
  subst hg
  jvm_step X.here [hexec, hdg, jx_is_up (e := e) (s := T) (s₀ := s) (f := g) X.here.top hpv X.warmed hE hd hcf hcp hnt hck hnone,
    invokestatic.wp_ready (e := e) (s := T.setVm (T.vm.calledUp g.method.cls ci index cn r0)) (k := k₂) (meth := r) (m := r0) (args := argsL) (rest := rest) (f := g)
      X.here.top ⟨ci, mname, mdesc, false, cn, ck₂, memberRef_ask_via (e := e) (via := false) hdk₂ (by rw [hed₂]; exact hcf) hcp hnt, hE.classReady, hck₂, hnone₂⟩ hE.ready hk₂
      (by show (T.vm.calledUp g.method.cls ci index cn r0).method? r0 = some r; rw [alike.method?]; exact hrm) (by rw [he₂]; show signaturePolymorphic k' r = false; simp [signaturePolymorphic, hnr, howner.1, howner.2]) hstatic (by rw [he₂]; exact hinit) hlen hstack]
  exact fun acts => hrest _
theorem jx_Go_ST {D : jx_D} {l : Launch} {own : String} {idx : Nat} {x y : MethodName} {as : List jx_A} {g : jx_S} {b : ByteArray} {nL : Nat} {ret : Option FieldType} (hlink : Cond.methodLink own idx x ∈ lw_all) (hsame : Cond.sameMethod x.cls y.cls x.name x.desc ∈ lw_all) (hxn : x.name = y.name ∧ x.desc = y.desc) (hstat : Cond.static y ∈ lw_all) (hinit : Cond.initialized y.cls ∈ lw_all) (hc : Cond.code y b nL ret ∈ lw_all) (hlen : jx_sg y as.length) (hy : jx_nmh y.cls) : jx_Go D l own (.invokestatic idx) y as g := by
  intro p e R s m args below meth c T locs cells slots M X hexec hown hts hE hR hok f rest hf hstack hdg
  obtain ⟨mk, hnamed⟩ := Cond.code_named (hts _ hc)
  obtain ⟨methM, cM, hmethM, -, -, -, -, -, -, hsigM⟩ := Cond.code_spec hnamed (hts _ hc)
  have hstatic : methM.isStatic = true := Cond.static_spec hnamed hmethM (hts _ hstat)
  obtain ⟨kP, hkP, -⟩ := className_of_methodNamed hnamed
  have hinitP : kP.init = .initialized := Cond.initialized_spec (findClass_of_methodNamed hnamed) hkP (hts _ hinit)
  have hn2 : s.methodNamed? ⟨y.cls, x.name, x.desc⟩ = some mk := by rw [hxn.1, hxn.2]; exact hnamed
  obtain ⟨vm₁, X₁, hstep₁⟩ := jx_staticUp X hexec hown (hts _ hlink) (hts _ hsame) hy hn2 hmethM hstatic hkP hinitP (g := f) hf (argsL := as.map jx_cv) (rest := rest) (by rw [List.length_map]; exact hlen _ hsigM) hstack hdg
  exact ⟨vm₁, mk, X₁, X₁.named hnamed, hstep₁⟩
end XP
