/-! THE MACHINE BY NUMBERS, 27: System.arraycopy out of bounds -/
set_option maxRecDepth 100000
section XN
theorem jx_natThrows {tb : Tables} {e : Env} {below : List Frame} {s target : State} {g : JFrame} {c : Code} (h : At s g.method c below)
    {m : MethodId} {meth : Method} {k : Class} {row : NativeRow} {args : Array Value} (acts : List Action)
    (hk : s.vm.classes[m.cls]? = some k) (hx : k.methods[m.idx]? = some meth) (hboot : k.loader = none)
    (hnat : meth.isNative = true) (hc : meth.code = none) (hl : meth.locks = false)
    (hrow : NativeRow.find? tb.natives k.name meth.name meth.desc = some row)
    (hroom : e.platform.stackFull (((s.setTop g).threads[(s.setTop g).cur]?).getD { frames := [] }) (s.setTop g).frames (nativeFrameWords k.name meth.name (operandWords args.toList)) = false)
    {cls text : String}
    (hw : wpRun (row.sem (seenByNative meth args)) (fun _ _ _ => False) (fun x s₁ _ => x = .throwNew cls (some text) ∧ s₁ = (s.setTop g).pushFrame (.native { method := m, args := seenByNative meth args, locked := none })) e
      ((s.setTop g).pushFrame (.native { method := m, args := seenByNative meth args, locked := none })))
    (hrest : Steps tb e below (((s.setTop g).pushFrame (.native { method := m, args := seenByNative meth args, locked := none })).pushFrame (.throwNew cls (some text) none)) target) :
    Steps tb e below (doInvoke e (s.setTop g) acts m args).1 target := by
  have hm : (s.setTop g).vm.method? m = some meth := by
    show s.vm.method? m = some meth
    simp [Vm.method?, hk, hx]
  have hroom' : e.platform.stackFull (((s.setTop g).threads[(s.setTop g).cur]?).getD { frames := [] }) (s.setTop g).frames
      (nativeFrameWords ((((s.setTop g).vm.classes[m.cls]?).map (·.name)).getD "") meth.name (operandWords args.toList)) = false := by
    have : (((s.setTop g).vm.classes[m.cls]?).map (·.name)).getD "" = k.name := by
      show ((s.vm.classes[m.cls]?).map (·.name)).getD "" = k.name
      simp [hk]
    rw [this]
    exact hroom
  rw [(Fast.doInvoke_native (s := s.setTop g) (e := e) (acts := acts) (args := args) hm hnat hc hl hroom').1]
  have hfe := frames_entered (g := g) h.top (.native { method := m, args := seenByNative meth args, locked := none })
  obtain ⟨mid, hmid⟩ := h.above
  refine Steps.head ⟨h.running, by simpa using h.runnable, by simpa using h.alone⟩
    ⟨.native { method := m, args := seenByNative meth args, locked := none } :: .java g :: mid, by rw [hfe, hmid]; rfl, by simp, by simp⟩ ?_
  rw [stepThread_native (f := { method := m, args := seenByNative meth args, locked := none }) (k := k) (x := meth) (row := row) hfe hk hx hboot hrow rfl]
  have hw := (wpRun_iff_run _ _ _ _ _).mp hw
  cases hr : (row.sem (seenByNative meth args)).run e ((s.setTop g).pushFrame (.native { method := m, args := seenByNative meth args, locked := none })) with
  | ok v s₁ acts₁ => rw [hr] at hw; exact hw.elim
  | ctl x s₁ acts₁ =>
    rw [hr] at hw
    cases x with
    | stop q => exact hw.elim
    | throwNew c' t' =>
      obtain ⟨e1, e2⟩ := hw
      cases e1
      subst e2
      exact hrest
    | _ =>
      have e1 := hw.1
      cases e1
theorem jx_cplen (w : String) (h : w.toList.length ≤ 200) : (("arraycopy: " ++ w) == notModelled) = false ∧ (stringBytes (stringToUtf16 ("arraycopy: " ++ w))).size ≤ 1990 := by
  refine ⟨?_, ?_⟩
  · rw [beq_eq_false_iff_ne]
    intro e
    have := congrArg (fun q => q.toList.head?) e
    simp only [String.toList_append] at this
    simp [notModelled] at this
  · refine Nat.le_trans (jx_len _) ?_
    simp only [String.toList_append, List.length_append]
    have : "arraycopy: ".toList.length = 11 := by decide
    omega
theorem jx_iprint {z : Int} (h : -10000000000 < z ∧ z < 10000000000) : (toString z).toList.length ≤ 11 := by
  show (Int.repr z).toList.length ≤ 11
  cases hc : z with
  | ofNat m =>
    rw [hc] at h
    have h1 : (m : Int) < 10000000000 := h.2
    have := nat_print (n := m) (by omega)
    show (toString m).toList.length ≤ 11
    omega
  | negSucc m =>
    rw [hc] at h
    have h1 := h.1
    have h2 : -10000000000 < -((m : Int) + 1) := by simpa [Int.negSucc_eq] using h1
    have := nat_print (n := m.succ) (by omega)
    show ("-" ++ toString m.succ).toList.length ≤ 11
    rw [String.toList_append, List.length_append]
    have h0 : "-".toList.length = 1 := by decide
    omega
theorem jx_copy_wp {e : Env} {d : Bool} {acts : List Action} {s : State} {src dst : Addr} {i j n : Int32} {cs cd : Cell} {ks kd : Class} {sComp dComp : ClassId}
    (hs : s.heap[src]? = some cs) (hd : s.heap[dst]? = some cd) (hsobj : ∀ k, cs.vm ≠ .statics k) (hdobj : ∀ k, cd.vm ≠ .statics k)
    (hks : s.vm.classes[cs.cls]? = some ks) (hkd : s.vm.classes[cd.cls]? = some kd) (hsk : ks.kind = .array sComp .long) (hdk : kd.kind = .array dComp .long) (h1 : cs.slots.size < 2 ^ 31) (h2 : cd.slots.size < 2 ^ 31)
    (hout : i < 0 ∨ j < 0 ∨ n < 0 ∨ i.toInt + n.toInt > cs.slots.size ∨ j.toInt + n.toInt > cd.slots.size) :
    ∃ text : String, (text == notModelled) = false ∧ (stringBytes (stringToUtf16 text)).size ≤ 1990 ∧ ∀ (Q : Option Value → Pre) (E : CtlPost), (∀ acts', E (.throwNew "java/lang/ArrayIndexOutOfBoundsException" (some text)) acts' s) → wp (Native.java_lang_System.arraycopy.sem #[.ref src, .int i, .ref dst, .int j, .int n]) Q E e d acts s := by
  have n1 := nat_print (n := cs.slots.size) (by omega)
  have n2 := nat_print (n := cd.slots.size) (by omega)
  have i1 := int32_print i
  have i2 := int32_print j
  have i3 := int32_print n
  have r1 := Int32.toInt_lt i
  have r2 := Int32.le_toInt i
  have r3 := Int32.toInt_lt j
  have r4 := Int32.le_toInt j
  have r5 := Int32.toInt_lt n
  have r6 := Int32.le_toInt n
  have i4 := jx_iprint (z := i.toInt + n.toInt) (by omega)
  have i5 := jx_iprint (z := j.toInt + n.toInt) (by omega)
  have key : ∀ what : String, what.toList.length ≤ 200 → (∀ (Q : Option Value → Pre) (E : CtlPost), (∀ acts', E (.throwNew "java/lang/ArrayIndexOutOfBoundsException" (some ("arraycopy: " ++ what))) acts' s) → wp (Native.java_lang_System.arraycopy.behind src dst i j n) Q E e d acts s) →
    ∃ text : String, (text == notModelled) = false ∧ (stringBytes (stringToUtf16 text)).size ≤ 1990 ∧ ∀ (Q : Option Value → Pre) (E : CtlPost), (∀ acts', E (.throwNew "java/lang/ArrayIndexOutOfBoundsException" (some text)) acts' s) → wp (Native.java_lang_System.arraycopy.sem #[.ref src, .int i, .ref dst, .int j, .int n]) Q E e d acts s :=
    fun what a c => ⟨_, (jx_cplen what a).1, (jx_cplen what a).2, c⟩
  have l1 : ("source index ").toList.length = 13 := by decide
  have l2 : ("destination index ").toList.length = 18 := by decide
  have l3 : ("length ").toList.length = 7 := by decide
  have l4 : ("last source index ").toList.length = 18 := by decide
  have l5 : ("last destination index ").toList.length = 23 := by decide
  have l6 : (" out of bounds for ").toList.length = 19 := by decide
  have l7 : (" is negative").toList.length = 12 := by decide
  have l8 : ("[").toList.length = 1 := by decide
  have l9 : ("]").toList.length = 1 := by decide
  have l0 : (Native.java_lang_System.arraycopy.kindName FieldType.long).toList.length = 4 := by decide
  have ts : ∀ q : String, toString q = q := fun _ => rfl
  have hob : ∃ what : String, (if i < 0 then some (toString "source index " ++ toString i ++ toString " out of bounds for " ++ toString (toString (Native.java_lang_System.arraycopy.kindName FieldType.long) ++ toString "[" ++ toString cs.slots.size ++ toString "]")) else if j < 0 then some (toString "destination index " ++ toString j ++ toString " out of bounds for " ++ toString (toString (Native.java_lang_System.arraycopy.kindName FieldType.long) ++ toString "[" ++ toString cd.slots.size ++ toString "]")) else if n < 0 then some (toString "length " ++ toString n ++ toString " is negative") else if i.toInt + n.toInt > cs.slots.size then some (toString "last source index " ++ toString (i.toInt + n.toInt) ++ toString " out of bounds for " ++ toString (toString (Native.java_lang_System.arraycopy.kindName FieldType.long) ++ toString "[" ++ toString cs.slots.size ++ toString "]")) else if j.toInt + n.toInt > cd.slots.size then some (toString "last destination index " ++ toString (j.toInt + n.toInt) ++ toString " out of bounds for " ++ toString (toString (Native.java_lang_System.arraycopy.kindName FieldType.long) ++ toString "[" ++ toString cd.slots.size ++ toString "]")) else none : Option String) = some what ∧ what.toList.length ≤ 200 := by
    by_cases c1 : i < 0
    · rw [if_pos c1]
      refine ⟨_, rfl, ?_⟩
      simp only [ts, String.toList_append, List.length_append]
      omega
    · rw [if_neg c1]
      by_cases c2 : j < 0
      · rw [if_pos c2]
        refine ⟨_, rfl, ?_⟩
        simp only [ts, String.toList_append, List.length_append]
        omega
      · rw [if_neg c2]
        by_cases c3 : n < 0
        · rw [if_pos c3]
          refine ⟨_, rfl, ?_⟩
          simp only [ts, String.toList_append, List.length_append]
          omega
        · rw [if_neg c3]
          by_cases c4 : i.toInt + n.toInt > cs.slots.size
          · rw [if_pos c4]
            refine ⟨_, rfl, ?_⟩
            simp only [ts, String.toList_append, List.length_append]
            omega
          · rw [if_neg c4]
            have c5 : j.toInt + n.toInt > cd.slots.size := by
              rcases hout with h | h | h | h | h
              · exact absurd h c1
              · exact absurd h c2
              · exact absurd h c3
              · exact absurd h c4
              · exact h
            rw [if_pos c5]
            refine ⟨_, rfl, ?_⟩
            simp only [ts, String.toList_append, List.length_append]
            omega
  obtain ⟨what, hob, hlen⟩ := hob
  refine key what hlen (fun Q E hE => ?_)
  unfold Native.java_lang_System.arraycopy.behind
  simp only [wp_bind', W.classOf, W.theClass, hs, hd, hks, hkd, Option.some.injEq, exists_eq_left', hsk, hdk]
  simp only [bne_self_eq_false, Bool.or_self, Bool.and_false, Bool.false_eq_true, if_false]
  simp only [wp_bind', W.sizeOf, hs, hd, Option.some.injEq, exists_eq_left']
  refine ⟨hsobj, hdobj, ?_⟩
  rw [hob]
  simp only [wp_bind', W.mark, W.throwNew]
  exact hE _
end XN
