/-! THE MACHINE BY NUMBERS, 13: switches; constructors and super calls -/
set_option maxRecDepth 100000
section JZ
variable {D : jx_D} {l : Launch} {mt : jx_Mt} {Po : jx_Po} {pc : Nat} {ls st : List jx_A} {u : Nat × Nat} {g : jx_S} {M : jx_M}
theorem jx_s_tsO {dflt lo hi x n : Int} {offs : Array Int} {len tgt : Nat} (hd : decode mt.2.1 pc = .ok (.tableswitch dflt lo hi offs, len)) (hx : jx_r x) (hc : x < lo ∨ hi < x) (ht : (pc : Int) + dflt = (tgt : Int)) (h : jx_V D l mt Po tgt ls st u g M) : jx_V D l mt Po pc ls ((0, n, x) :: st) u g M :=
  jx_pure h (fun q => jx_ok_tl q) fun _ _ _ _ _ _ _ _ _ _ _ _ _ _ _ hxx hb _ k => lv_tableOut hxx hb hd (by rw [jx_ti hx]; exact hc) ht k
theorem jx_s_tsI {dflt lo hi x n off : Int} {offs : Array Int} {len tgt : Nat} (hd : decode mt.2.1 pc = .ok (.tableswitch dflt lo hi offs, len)) (hx : jx_r x) (h1 : lo ≤ x) (h2 : x ≤ hi) (ho : offs[(x - lo).toNat]? = some off) (ht : (pc : Int) + off = (tgt : Int)) (h : jx_V D l mt Po tgt ls st u g M) : jx_V D l mt Po pc ls ((0, n, x) :: st) u g M :=
  jx_pure h (fun q => jx_ok_tl q) fun _ _ _ _ _ _ _ _ _ _ _ _ _ _ _ hxx hb _ k => lv_tableIn hxx hb hd (by rw [jx_ti hx]; omega) (by rw [jx_ti hx]; omega) (by rw [jx_ti hx]; exact ho) ht k
end JZ
section GI
variable {D : jx_D} {l : Launch} {own : String} {idx : Nat} {x y : MethodName} {as : List jx_A} {g : jx_S} {t : Nat} {n a : Int}
theorem jx_Go_I {b : ByteArray} {nL : Nat} (ht : 2 ≤ t) (ha : 0 ≤ a) (hlink : Cond.methodLink own idx y ∈ lw_all) (hinst : Cond.instanceMethod y ∈ lw_all) (hc : Cond.code y b nL none ∈ lw_all) (hnm : y.name = "<init>") (hlen : jx_sg y as.length) (hy : jx_nmh y.cls) : jx_Go D l own (.invokespecial idx) y ((t, n, a) :: as) g := by
  intro p e R s m args below meth c T locs cells slots M X hexec hown hts hE hR hok f rest hf hstack hdg
  have ecv : jx_cv (t, n, a) = .ref a.toNat := jx_cv_ref ht ha
  have hpl : e.platform.magicAccessors = ({} : Platform).magicAccessors := by rw [X.admits.platform]
  subst hf
  obtain ⟨mk, methM, cM, kP, vm₁, hnamed, hmethM, hcodeM, -, hlocalsM, -, hkP, -, hW₁, hstep₁⟩ := Steps.initColdArgs (e := e) X.here hexec X.warmed hpl hown hnm hy (hts _ hlink) (hts _ hinst) (hts _ hc) (f := f) rfl (argsL := as.map jx_cv) (rest := rest) (a := a.toNat) (fun sig hs => by rw [List.length_map]; exact hlen sig hs) (by rw [hstack, List.map_cons, ecv, List.reverse_cons, List.append_assoc]; rfl) hdg
  have X₁ := X.noted hW₁
  refine ⟨vm₁, mk, X₁, X₁.named hnamed, fun target h => hstep₁ target ?_⟩
  rw [List.map_cons, ecv] at h
  exact h
theorem jx_Go_IN {b : ByteArray} {nL : Nat} {host : String} (ht : 2 ≤ t) (ha : 0 ≤ a) (hlink : Cond.methodLinkNest own idx y host ∈ jx_nl) (hinst : Cond.instanceMethod y ∈ lw_all) (hc : Cond.code y b nL none ∈ lw_all) (hnm : y.name = "<init>") (hlen : jx_sg y as.length) (hy : jx_nmh y.cls) : jx_Go D l own (.invokespecial idx) y ((t, n, a) :: as) g := by
  intro p e R s m args below meth c T locs cells slots M X hexec hown hts hE hR hok f rest hf hstack hdg
  have ecv : jx_cv (t, n, a) = .ref a.toNat := jx_cv_ref ht ha
  have hpl : e.platform.magicAccessors = ({} : Platform).magicAccessors := by rw [X.admits.platform]
  subst hf
  have hlk : (Cond.methodLinkNest own idx y host).before args s = true := va_Nw.use rfl (hE.2.2.1 _ hlink)
  obtain ⟨mk, methM, cM, kP, vm₁, hnamed, hmethM, hcodeM, -, hlocalsM, -, hkP, -, hW₁, hstep₁⟩ := Steps.initColdArgsNest (e := e) X.here hexec X.warmed hpl hown hnm hy hlk (hts _ hinst) (hts _ hc) (f := f) rfl (argsL := as.map jx_cv) (rest := rest) (a := a.toNat) (fun sig hs => by rw [List.length_map]; exact hlen sig hs) (by rw [hstack, List.map_cons, ecv, List.reverse_cons, List.append_assoc]; rfl) hdg
  have X₁ := X.noted hW₁
  refine ⟨vm₁, mk, X₁, X₁.named hnamed, fun target h => hstep₁ target ?_⟩
  rw [List.map_cons, ecv] at h
  exact h
theorem jx_Go_SU {q : vw_C} {b : ByteArray} {nL : Nat} {ret : Option FieldType} (ht : 10 ≤ t) (hq : jx_cl (jx_bk (g.2 a).1) = some q) (hlink : Cond.methodLink own idx y ∈ lw_all) (hsame : Cond.sameMethod y.cls y.cls y.name y.desc ∈ lw_all) (hsup : Cond.superclass own y.cls ∈ lw_all) (hinst : Cond.instanceMethod y ∈ lw_all) (hc : Cond.code y b nL ret ∈ lw_all) (hno : y.name ≠ "<init>") (hlen : jx_sg y as.length) : jx_Go D l own (.invokespecial idx) y ((t, n, a) :: as) g := by
  intro p e R s m args below meth c T locs cells slots M X hexec hown hts hE hR hok f rest hf hstack hdg
  obtain ⟨ecv, cellB, hcell, hobj, hcls, kB, hkB⟩ := jx_recv hE hR (hok _ List.mem_cons_self) ht hq
  obtain ⟨mk, methM, hnamed, hmethM, hstM, habM⟩ := Cond.instanceMethod_spec (hts _ hinst)
  obtain ⟨methM', cM, hmethM', -, -, -, -, -, -, hsigM⟩ := Cond.code_spec hnamed (hts _ hc)
  cases hmethM.symm.trans hmethM'
  obtain ⟨ps, dk, kp, hps, hdk, hkp, hsuper, -, -, hnid⟩ := Cond.superclass_spec hown (hts _ hsup)
  have hn : s.methodNamed? ⟨y.cls, y.name, y.desc⟩ = some mk := hnamed
  have hpm : ps = mk.cls := Option.some.inj (hps.symm.trans (findClass_of_methodNamed hnamed))
  have hsub : s.vm.isSubclass ps mk.cls = true := by rw [hpm]; simp [Vm.isSubclass, Vm.isSubclassAux]
  obtain ⟨vm₁, X₁, hstep₁⟩ := X.invokespecialUp hexec hown (hts _ hlink) (hts _ hsame) hn hmethM hstM habM hno hdk hnid hps hsuper hsub (a := a.toNat) (cell := cellB) hcell
    (fun z h => by rw [h] at hobj; cases hobj) hkB (g := f) hf (argsL := as.map jx_cv) (rest := rest) (by rw [List.length_map]; exact hlen _ hsigM) (by rw [hstack, List.map_cons, ecv, List.reverse_cons, List.append_assoc]; rfl) hdg
  refine ⟨vm₁, mk, X₁, X₁.named hnamed, fun target h => hstep₁ target ?_⟩
  rw [List.map_cons, ecv] at h
  exact h []
/-- a call of a method of the acts (x: as it is named at the call, y: what is chosen for the class q), the callee's receiver under the tag t' -/
theorem jx_CR_U {q : vw_C} {M : jx_M} {Po : jx_Po} {S : jx_Sp} {w0 : Cond} {d d' k kc ks nL nL' t' : Nat} {b b' : ByteArray} {ret ret' : Option FieldType} {owner : String} (hM : jx_Ct l y (w0 :: lw_all) d' kc ks S) (hw0 : w0 ∈ lw_all) (hS : S ((t', n, a) :: as) g M Po) (hdd : d' < d) (hnL : nL ≤ 40) (hc : Cond.code y b nL ret ∈ lw_all) (hinit : Cond.initialized y.cls ∈ lw_all)
    (ht : 10 ≤ t) (ht' : 10 ≤ t') (hnr : jx_nr t') (hin : jx_in t' (g.2 a).1) (hn : (g.2 a).2 = n) (h0 : 0 ≤ a) (hq : jx_cl (jx_bk (g.2 a).1) = some q) (hlink : Cond.methodLink own idx x ∈ lw_all) (hsame : Cond.sameMethod x.cls owner x.name x.desc ∈ lw_all)
    (hdecl : (Cond.instanceMethod ⟨owner, x.name, x.desc⟩ ∈ lw_all ∧ Cond.code ⟨owner, x.name, x.desc⟩ b' nL' ret' ∈ lw_all) ∨ Cond.declares ⟨owner, x.name, x.desc⟩ ∈ jx_nl) (howner : jx_nmh owner) (hsel : Cond.selects q.1 x y ∈ lw_all) (hinst : Cond.instanceMethod y ∈ lw_all) (hlen : jx_sg x k) (hk : as.length = k) : jx_CR D l own d (.invokevirtual idx) (k + 1) kc ks ((t, n, a) :: as) g M Po := by
  refine jx_CR_re hM hS ?_ (fun hok => ?_) (by simp [hk]) hdd hnL (fun w hw => ?_) (jx_hasCode_c hc) hinit (jx_Go_U ht hq hlink hsame hdecl howner hsel hinst (by rw [hk]; exact hlen))
  · rw [List.map_cons, List.map_cons, jx_cv_ref (by omega) h0, jx_cv_ref (by omega) h0]
  · exact jx_ok_cons ⟨fun z => (by have : t' = 1 := z; omega), fun _ => ⟨hin, hn⟩, fun _ => hnr⟩ (jx_ok_tl hok)
  · rcases List.mem_cons.mp hw with e | e
    · rw [e]; exact hw0
    · exact e
end GI
