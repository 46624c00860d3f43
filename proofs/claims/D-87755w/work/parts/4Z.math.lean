/-! java.lang.Math: max, min -/
set_option maxRecDepth 100000
section MX
variable {D : jx_D} {l : Launch} {own : String} {d idx : Nat}
def js_J10_max : jx_Sp := fun as g M Po => match as with
  | [(0, _, a), (0, _, b)] => (jx_r a ∧ jx_r b) ∧ Po (0, 0, max a b) g M
  | _ => False
def js_J10_min : jx_Sp := fun as g M Po => match as with
  | [(0, _, a), (0, _, b)] => (jx_r a ∧ jx_r b) ∧ Po (0, 0, min a b) g M
  | _ => False
theorem jx_CS_min (hlink : Cond.methodLink own idx ⟨"java/lang/Math", "min", "(II)I"⟩ ∈ lw_all) : jx_CS D l own d (.invokestatic idx) 2 0 0 js_J10_min := by
  intro as g M Po hS
  unfold js_J10_min at hS
  split at hS
  rotate_left
  · exact hS.elim
  · rename_i n1 a n2 b
    obtain ⟨⟨ra, rb⟩, hP⟩ := hS
    refine ⟨rfl, ?_⟩
    intro p e R s m args below meth c T locs cells slots X hexec hown hts hE hfl hR hok hfr hlo hc hs f rest hf hsz hstack hw hdg
    obtain ⟨vm', X', st⟩ := X.mathMinV hexec hown (hts _ hlink) (hts _ q970) (hts _ q98) (hts _ q971) (g := f) hf hsz (a := Int32.ofInt a) (b := Int32.ofInt b) (rest := rest) hstack hdg (by omega) (by omega) (by omega) (by omega)
    refine ⟨(0, 0, min a b), g, M, T.setVm vm', [], fun _ _ _ => rfl, hP, hR, jx_ok_i, ?_, fun q hq => by simp at hq, ?_, .inl ⟨by show (0 : Nat) ≠ 4; decide, fun t h => st t ?_⟩⟩
    · exact fun w => absurd w (by show (0 : Nat) ≠ 4; decide)
    · rw [List.append_nil]; exact X'
    · have e0 : (if Int32.ofInt b < Int32.ofInt a then Int32.ofInt b else Int32.ofInt a) = Int32.ofInt (min a b) := by
        by_cases c : b < a
        · rw [if_pos ((jx_lt rb ra).mpr c), show min a b = b by omega]
        · rw [if_neg (fun w => c ((jx_lt rb ra).mp w)), show min a b = a by omega]
      rw [e0]
      exact h
theorem jx_maxV {p : Program} {e : Env} {R : Room} {s : State} {m : MethodId} {args : Array Value} {below : List Frame} {meth : Method} {c : Code} {T : State} {locs : List Loc} {cells slots : Nat} (X : Stand p l e R s m args below meth c T locs cells slots) (hexec : p.tables.exec = Jvm.exec) {index : Nat} (hown : s.vm.findClass own = some m.cls)
    (hlink : (Cond.methodLink own index Lib.Math.max.name).before args s = true) (hstat : (Cond.static Lib.Math.max.name).before args s = true) (hinit : (Cond.initialized "java/lang/Math").before args s = true)
    (hcode : (Cond.code Lib.Math.max.name Lib.Math.max.code 2 (some .int)).before args s = true)
    {g : JFrame} (hg : g.method = m) (hsize : g.locals.size = c.maxLocals) {a b : Int32} {rest : List Value} (hstack : g.stack = .int b :: .int a :: rest) (hdg : decode c.code g.pc = .ok (.invokestatic index, 3))
    (hframes : 1 ≤ R.frames) (hlocals : 2 * g.monitorRoom + (rest.map fun v => v.category).sum + 13 ≤ R.locals) (hcells : cells ≤ R.cells) (hslots : slots ≤ R.slots) :
    ∃ vm', Stand p l e R s m args below meth c (T.setVm vm') locs cells slots ∧
      ∀ target, Steps p.tables e below ((T.setVm vm').setTop { g with pc := g.pc + 3, stack := .int (if a < b then b else a) :: rest }) target → Steps p.tables e below (T.setTop g) target := by
  obtain ⟨v, vm', X', ⟨first, t, hpost⟩, hstep⟩ := X.staticByContractV hexec hown hlink hstat hinit hcode (by decide)
    (Meets.loose_of_no_refs (Lib.Math.max.meets l) fun args' s' h => by
      simp only [Lib.Math.max.spec, Cond.before_and, Bool.and_eq_true] at h
      obtain ⟨x, y, rfl⟩ := Cond.two_ints h.2.1 h.2.2.1 h.2.2.2
      intro r hr; simp at hr)
    rfl rfl rfl rfl
    (fun args' first o s₂ h => by
      simp only [Lib.Math.max.spec, Cond.after_and, Bool.and_eq_true] at h
      cases o with
      | returned r => exact ⟨r, rfl⟩
      | threw y => simp [Cond.after, Cond.holds, Cond.value] at h)
    hg hsize (argsL := [.int a, .int b]) (rest := rest)
    (fun sig hs => by
      have h : parseMethodDescriptor "(II)I" = some { parameters := [.int, .int], returnType := some .int } := by decide +kernel
      rw [show Lib.Math.max.name.desc = "(II)I" from rfl, h] at hs
      rw [← Option.some.inj hs]; rfl)
    hstack hdg
    (fun vm' hW => by
      simp only [Lib.Math.max.spec, Cond.before_and, Bool.and_eq_true]
      refine ⟨?_, rfl, rfl, rfl⟩
      have q := hcode
      rw [← Cond.code_setVm hW.alike] at q
      simp only [Cond.before, Cond.holds, Cond.value, State.methodNamed?, State.vm_setVm] at q ⊢
      exact q)
    (by show 0 + 1 ≤ R.frames; omega) (by show 2 * g.monitorRoom + (rest.map fun v => v.category).sum + (2 + 11) + 0 ≤ R.locals; omega) (by show cells + 0 ≤ R.cells; omega) (by show slots + 0 ≤ R.slots; omega)
  refine ⟨vm', X', fun target h => hstep target ?_⟩
  by_cases h1 : a < b
  · obtain rfl : v = some (.int b) := by
      rcases v with _ | w
      · simp [Lib.Math.max.spec, Cond.after, Cond.holds, Cond.value, Term.eval, h1] at hpost
      · cases w <;> simp [Lib.Math.max.spec, Cond.after, Cond.holds, Cond.value, Term.eval, h1] at hpost
        rename_i r
        by_cases hr : r = b <;> simp [hr] at hpost ⊢
    rw [if_pos h1] at h; exact h
  · obtain rfl : v = some (.int a) := by
      rcases v with _ | w
      · simp [Lib.Math.max.spec, Cond.after, Cond.holds, Cond.value, Term.eval, h1] at hpost
      · cases w <;> simp [Lib.Math.max.spec, Cond.after, Cond.holds, Cond.value, Term.eval, h1] at hpost
        rename_i r
        by_cases hr : r = a <;> simp [hr] at hpost ⊢
    rw [if_neg h1] at h; exact h
theorem jx_CS_max (hlink : Cond.methodLink own idx ⟨"java/lang/Math", "max", "(II)I"⟩ ∈ lw_all) : jx_CS D l own d (.invokestatic idx) 2 0 0 js_J10_max := by
  intro as g M Po hS
  unfold js_J10_max at hS
  split at hS
  rotate_left
  · exact hS.elim
  · rename_i n1 a n2 b
    obtain ⟨⟨ra, rb⟩, hP⟩ := hS
    refine ⟨rfl, ?_⟩
    intro p e R s m args below meth c T locs cells slots X hexec hown hts hE hfl hR hok hfr hlo hc hs f rest hf hsz hstack hw hdg
    obtain ⟨vm', X', st⟩ := jx_maxV X hexec hown (hts _ hlink) (hts _ q911) (hts _ q98) (hts _ q912) (g := f) hf hsz (a := Int32.ofInt a) (b := Int32.ofInt b) (rest := rest) hstack hdg (by omega) (by omega) (by omega) (by omega)
    refine ⟨(0, 0, max a b), g, M, T.setVm vm', [], fun _ _ _ => rfl, hP, hR, jx_ok_i, ?_, fun q hq => by simp at hq, ?_, .inl ⟨by show (0 : Nat) ≠ 4; decide, fun t h => st t ?_⟩⟩
    · exact fun w => absurd w (by show (0 : Nat) ≠ 4; decide)
    · rw [List.append_nil]; exact X'
    · have e0 : (if Int32.ofInt a < Int32.ofInt b then Int32.ofInt b else Int32.ofInt a) = Int32.ofInt (max a b) := by
        by_cases c : a < b
        · rw [if_pos ((jx_lt ra rb).mpr c), show max a b = b by omega]
        · rw [if_neg (fun w => c ((jx_lt ra rb).mp w)), show max a b = a by omega]
      rw [e0]
      exact h
end MX
