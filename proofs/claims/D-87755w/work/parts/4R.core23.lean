/-! THE MACHINE BY NUMBERS, 23: a cast that fails; instanceof -/
set_option maxRecDepth 100000
theorem jx_ldr {vm : Vm} {name : String} {c : ClassId} {k : Class} (h : vm.findClass name = some c) (hk : vm.classes[c]? = some k) : k.loader = none := by
  obtain ⟨hlt, hp, _⟩ := Array.findIdx?_eq_some_iff_getElem.mp h
  have : vm.classes[c] = k := by simpa [hlt] using hk
  rw [this] at hp
  simp only [Bool.and_eq_true, Option.isNone_iff_eq_none] at hp
  exact hp.2
theorem jx_home {vm : Vm} {name : String} {c : ClassId} {k : Class} (h : vm.findClass name = some c) (hk : vm.classes[c]? = some k) (hm : (vm.modules.all fun m => m.loader.isSome || m.name == "java.base" || !(castPackages_1.any fun p => m.packages.contains p)) = true) (hp : packageOf name = "") : (vm.home k).toList.length ≤ 60 := by
  obtain ⟨k', h1, h2⟩ := Vm.findClass_spec h
  cases hk.symm.trans h1
  have hl := jx_ldr h hk
  have hmod : ∀ m, vm.moduleOf k = some m → m.name = "java.base" := by
    intro m e
    unfold Vm.moduleOf at e
    split at e
    · have := List.find?_some e
      simpa using this
    · have e1 := List.find?_some e
      have e2 := List.mem_of_find?_eq_some e
      rw [List.all_eq_true] at hm
      have e3 := hm m e2
      rw [hl, h2, hp] at e1
      simp only [Bool.and_eq_true, beq_iff_eq] at e1
      rw [e1.1] at e3
      simp only [castPackages_1, List.any_cons, e1.2] at e3
      simpa using e3
  unfold Vm.home
  rw [hl]
  cases e : vm.moduleOf k with
  | none =>
    show ("unnamed module" ++ " of loader " ++ "'bootstrap'").toList.length ≤ 60
    decide +kernel
  | some m =>
    dsimp only
    rw [hmod m e]
    show ("module " ++ "java.base" ++ " of loader " ++ "'bootstrap'").toList.length ≤ 60
    decide +kernel
theorem jx_casttext {vm : Vm} {n1 n2 : String} {c1 c2 : ClassId} {k1 k2 : Class} (h1 : vm.findClass n1 = some c1) (hk1 : vm.classes[c1]? = some k1) (h2 : vm.findClass n2 = some c2) (hk2 : vm.classes[c2]? = some k2) (hm : (vm.modules.all fun m => m.loader.isSome || m.name == "java.base" || !(castPackages_1.any fun p => m.packages.contains p)) = true)
    (p1 : packageOf n1 = "") (p2 : packageOf n2 = "") (l1 : n1.toList.length ≤ 30) (l2 : n2.toList.length ≤ 30) : (checkcast.message vm k1 k2 == notModelled) = false ∧ (stringBytes (stringToUtf16 (checkcast.message vm k1 k2))).size ≤ 1990 := by
  have a1 := jx_home h1 hk1 hm p1
  have a2 := jx_home h2 hk2 hm p2
  have s1 := jx_shown h1 hk1
  have s2 := jx_shown h2 hk2
  have hh : (vm.homes k1 k2).toList.length ≤ 220 := by
    unfold Vm.homes
    split
    · simp only [toString, String.toList_append, List.length_append]
      simp
      omega
    · simp only [toString, String.toList_append, List.length_append]
      simp
      omega
  refine ⟨?_, ?_⟩
  · rw [beq_eq_false_iff_ne]
    intro e
    have := congrArg (fun q => q.toList.head?) e
    unfold checkcast.message at this
    simp only [toString, String.toList_append] at this
    simp [notModelled] at this
  · refine Nat.le_trans (jx_len _) ?_
    have : (checkcast.message vm k1 k2).toList.length ≤ 400 := by
      unfold checkcast.message
      simp only [toString, String.toList_append, List.length_append]
      simp
      omega
    omega
section XJ
variable {D : jx_D} {l : Launch} {mt : jx_Mt} {Po : jx_Po} {pc : Nat} {ls st : List jx_A} {u : Nat × Nat} {g : jx_S} {M : jx_M} {hf : Nat → Int → Option Nat}
theorem jx_t_cast {idx k t : Nat} {q n z : Int} {n1 n2 : String} (hd : decode mt.2.1 pc = .ok (.checkcast idx, 3)) (hlink : Cond.classLink mt.1 idx n2 ∈ lw_all) (ht : 2 ≤ t) (hg : g.2 z = (k, n)) (hk : 10 ≤ k) (hn : (∃ q, jx_cl (jx_bk k) = some q ∧ q.1 = n1) ∨ ∃ ty, jx_aty (jx_bk k) = some ty ∧ "[" ++ ty.toString = n1)
    (hc : Cond.not (.castable n1 n2) ∈ flatC (Jvm.Cond.and given_1 narrow_1)) (p1 : packageOf n1 = "") (p2 : packageOf n2 = "") (l1 : n1.toList.length ≤ 30) (l2 : n2.toList.length ≤ 30) : jx_Thm D l mt pc ls ((t, q, z) :: st) ((t, q, z) :: st) g M 2 := by
  intro p e R s m args below meth c T locs cells slots lo C X hR hl hs
  have hE := C.2.2.2.2.2.2.2.1
  obtain ⟨z0, cell, c1, c2, c3⟩ := jx_cls hE hR hg hk hn
  obtain ⟨cc, ct, f1, f2, f3⟩ := hE.2.2.2.1 _ _ hc
  cases c3.symm.trans f1
  have hpl : e.platform.magicAccessors = ({} : Platform).magicAccessors := by rw [X.admits.platform]
  obtain ⟨c', hc', hcl⟩ := Cond.classLink_spec C.2.2.2.2.2.1 (C.2.2.2.2.2.2.1 _ hlink) e.platform hpl
  cases f2.symm.trans hc'
  obtain ⟨ks, hks, -⟩ := Vm.findClass_spec f1
  obtain ⟨dk, _, _, kt, hdk, _, _, _, _, hkt, _, hopen⟩ := hcl.here
  have hcl₀ := X.warmed.classLinks hcl
  have hW' : s.WarmedH (T.vm.noted m.cls idx (.cls ct)) := X.warmed.noted hdk hopen (State.rightAt_cls hcl)
  obtain ⟨ks', hks', -⟩ := hW'.alike.2.2 _ _ hks
  obtain ⟨kt', hkt', -⟩ := hW'.alike.2.2 _ _ hkt
  have hmods : (T.vm.noted m.cls idx (.cls ct)).modules = s.vm.modules := by rw [hW'.1]
  have hm : ((T.vm.noted m.cls idx (.cls ct)).modules.all fun m => m.loader.isSome || m.name == "java.base" || !(castPackages_1.any fun p => m.packages.contains p)) = true := by
    rw [hmods]
    exact hE.2.2.2.2.2.2.1
  have htx := jx_casttext (vm := T.vm.noted m.cls idx (.cls ct)) (by rw [hW'.alike.findClass]; exact f1) hks' (by rw [hW'.alike.findClass]; exact f2) hkt' hm p1 p2 l1 l2
  refine ⟨_, _, X.noted hW', htx.1, htx.2, fun target hrest => ?_⟩
  have hdg : decode c.code (F0 m pc lo (((t, q, z) :: st).map jx_cv)).pc = .ok (.checkcast idx, 3) := by rw [C.2.1]; exact hd
  have hstack : (F0 m pc lo (((t, q, z) :: st).map jx_cv)).stack = .ref z.toNat :: st.map jx_cv := by rw [List.map_cons, jx_cv_ref ht z0]
  have hexec := C.1
  have hmm : (F0 m pc lo (((t, q, z) :: st).map jx_cv)).method = m := rfl
  revert hdg hstack hmm hrest
  generalize F0 m pc lo (((t, q, z) :: st).map jx_cv) = fr
  intro hrest hdg hstack hmm
  subst hmm
  jvm_step X.here [hexec, hdg, checkcast.wp_cold (e := e) (s := T) (f := fr) X.here.top hstack (resolveClass_links e.toSetting hcl₀) hcl₀.ready,
    checkcast.wp_ready (e := e) (s := T.setVm (T.vm.noted fr.method.cls idx (.cls ct))) (f := fr) X.here.top hcl₀.ready hstack]
  refine ⟨cell, c1, VmData.noStatics_of c2, ks', hks', kt', hkt', ?_⟩
  rw [if_neg (by rw [hW'.alike.assignable, f3]; decide)]
  exact hrest
theorem jx_s_instN {idx : Nat} {q z : Int} (hd : decode mt.2.1 pc = .ok (.instanceof idx, 3)) (hz : z < 0) (h : jx_V D l mt Po (pc + 3) ls ((0, 0, 0) :: st) u g M) : jx_V D l mt Po pc ls ((2, q, z) :: st) u g M := by
  intro p e s m args below meth c C H locs a hR hl hs hL hf' h1 h2 T hTH X
  obtain ⟨t, q1, q2⟩ := h p e s m args below meth c C H locs a hR hl (jx_ok_cons jx_ok_i (jx_ok_tl hs)) hL hf' h1 h2 T hTH X
  refine ⟨t, ?_, q2⟩
  rw [List.map_cons] at q1
  rw [List.map_cons, jx_cv_null hz]
  exact X.instanceofNull C.1 (g := F0 m pc a (.null :: st.map jx_cv)) rfl rfl (by rw [C.2.1]; exact hd) t q1
theorem jx_s_instY {idx k t : Nat} {q n z : Int} {nm : String} (hd : decode mt.2.1 pc = .ok (.instanceof idx, 3)) (hlink : Cond.classLink mt.1 idx nm ∈ lw_all) (ht : 2 ≤ t) (hg : g.2 z = (k, n)) (hk : 10 ≤ k) (hn : (∃ q, jx_cl (jx_bk k) = some q ∧ q.1 = nm) ∨ ∃ ty, jx_aty (jx_bk k) = some ty ∧ "[" ++ ty.toString = nm)
    (h : jx_V D l mt Po (pc + 3) ls ((0, 0, 1) :: st) u g M) : jx_V D l mt Po pc ls ((t, q, z) :: st) u g M := by
  intro p e s m args below meth c C H locs a hR hl hs hL hf' h1 h2 T hTH X
  subst hTH
  obtain ⟨z0, cell, c1, c2, c3⟩ := jx_cls C.2.2.2.2.2.2.2.1 hR hg hk hn
  obtain ⟨vm', X', st'⟩ := X.instanceofYes C.1 C.2.2.2.2.2.1 (C.2.2.2.2.2.2.1 _ hlink) c1 c2 c3 (va_asg _ _) (g := F0 m pc a (((t, q, z) :: st).map jx_cv)) (rest := st.map jx_cv) rfl (by rw [List.map_cons, jx_cv_ref ht z0]) (by rw [C.2.1]; exact hd)
  obtain ⟨tt, q1, q2⟩ := h p e s m args below meth c C T.heap locs a hR hl (jx_ok_cons jx_ok_i (jx_ok_tl hs)) hL hf' h1 h2 (T.setVm vm') rfl X'
  exact ⟨tt, st' tt q1, q2⟩
theorem jx_s_instF {idx k t : Nat} {q n z : Int} {n1 n2 : String} (hd : decode mt.2.1 pc = .ok (.instanceof idx, 3)) (hlink : Cond.classLink mt.1 idx n2 ∈ lw_all) (ht : 2 ≤ t) (hg : g.2 z = (k, n)) (hk : 10 ≤ k) (hn : (∃ q, jx_cl (jx_bk k) = some q ∧ q.1 = n1) ∨ ∃ ty, jx_aty (jx_bk k) = some ty ∧ "[" ++ ty.toString = n1)
    (hc : Cond.not (.castable n1 n2) ∈ flatC (Jvm.Cond.and given_1 narrow_1)) (h : jx_V D l mt Po (pc + 3) ls ((0, 0, 0) :: st) u g M) : jx_V D l mt Po pc ls ((t, q, z) :: st) u g M := by
  intro p e s m args below meth c C H locs a hR hl hs hL hf' h1 h2 T hTH X
  subst hTH
  have hE := C.2.2.2.2.2.2.2.1
  obtain ⟨z0, cell, c1, c2, c3⟩ := jx_cls hE hR hg hk hn
  obtain ⟨cc, ct, f1, f2, f3⟩ := hE.2.2.2.1 _ _ hc
  cases c3.symm.trans f1
  obtain ⟨ks, hks, -⟩ := Vm.findClass_spec f1
  obtain ⟨vm', X', st'⟩ := va_instofNo X C.1 C.2.2.2.2.2.1 (C.2.2.2.2.2.2.1 _ hlink) c1 c2 hks f2 f3 (g := F0 m pc a (((t, q, z) :: st).map jx_cv)) (rest := st.map jx_cv) rfl (by rw [List.map_cons, jx_cv_ref ht z0]) (by rw [C.2.1]; exact hd)
  obtain ⟨tt, q1, q2⟩ := h p e s m args below meth c C T.heap locs a hR hl (jx_ok_cons jx_ok_i (jx_ok_tl hs)) hL hf' h1 h2 (T.setVm vm') rfl X'
  exact ⟨tt, st' tt q1, q2⟩
end XJ
