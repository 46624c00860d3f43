/-! THE MACHINE BY NUMBERS, 12: call sites -/
set_option maxRecDepth 100000
section CSS
variable {D : jx_D} {l : Launch} {own : String} {idx : Nat} {x y : MethodName} {w0 : Cond} {d d' kc ks : Nat} {S : jx_Sp}
/-- a call through an object whose class is known by its tag -/
theorem jx_CS_V {t k nL : Nat} {q : vw_C} {b : ByteArray} {ret : Option FieldType} {hh : List (Nat × Nat × Nat × Nat)} (hM : jx_Ct l y (w0 :: lw_all) d' kc ks S) (hw0 : w0 ∈ lw_all) (hsh : ∀ as g M Po, S as g M Po → ∃ n a as', as = (t, n, a) :: as' ∧ as'.length = k) (hdd : d' < d) (hnL : nL ≤ 40)
    (hc : Cond.code y b nL ret ∈ lw_all ∨ Cond.codeWith y b nL ret hh ∈ lw_all) (hinit : Cond.initialized y.cls ∈ lw_all) (ht : 10 ≤ t) (hqt : ∀ k, jx_in t k → jx_cl (jx_bk k) = some q) (hlink : Cond.methodLink own idx y ∈ lw_all) (hinst : Cond.instanceMethod y ∈ lw_all) (hsel : Cond.selects q.1 y y ∈ lw_all) (hlen : jx_sg y k) (hy : jx_nmh y.cls) : jx_CS D l own d (.invokevirtual idx) (k + 1) kc ks S := by
  intro as g M Po hS
  obtain ⟨n, a, as', rfl, hl⟩ := hsh as g M Po hS
  refine jx_CR_of hM hS (by simp [hl]) hdd hnL (fun w hw => ?_) (hc.elim jx_hasCode_c jx_hasCode_w) hinit ?_
  · rcases List.mem_cons.mp hw with e | e
    · rw [e]; exact hw0
    · exact e
  · intro p e R s m args below meth c T locs cells slots M X hexec hown hts hE hR hok
    exact jx_Go_V ht (hqt _ ((hok _ List.mem_cons_self).2.1 ht).1) hlink hinst hsel hc (by rw [hl]; exact hlen) hy p e R s m args below meth c T locs cells slots M X hexec hown hts hE hR hok
theorem jx_CS_S {k nL : Nat} {b : ByteArray} {ret : Option FieldType} (hM : jx_Ct l y (w0 :: lw_all) d' kc ks S) (hw0 : w0 ∈ lw_all) (hsh : ∀ as g M Po, S as g M Po → as.length = k) (hdd : d' < d) (hnL : nL ≤ 40)
    (hc : Cond.code y b nL ret ∈ lw_all) (hinit : Cond.initialized y.cls ∈ lw_all) (hlink : Cond.methodLink own idx y ∈ lw_all) (hstat : Cond.static y ∈ lw_all) (hlen : jx_sg y k) (hy : jx_nmh y.cls) : jx_CS D l own d (.invokestatic idx) k kc ks S := by
  intro as g M Po hS
  have hl := hsh as g M Po hS
  refine jx_CR_of hM hS hl hdd hnL (fun w hw => ?_) (jx_hasCode_c hc) hinit ?_
  · rcases List.mem_cons.mp hw with e | e
    · rw [e]; exact hw0
    · exact e
  · exact jx_Go_S hlink hstat hinit hc (by rw [hl]; exact hlen) hy
theorem jx_sg_of {k : Nat} (h : (parseMethodDescriptor y.desc).map (fun q => q.parameters.length) = some k) : jx_sg y k := by
  intro sig hs
  rw [hs] at h
  exact (Option.some.inj h).symm
theorem jx_in_1 {t : Nat} {q : vw_C} (h : jx_cl (jx_bk t) = some q) (h80 : t < 80) : ∀ k, jx_in t k → jx_cl (jx_bk k) = some q := by
  intro k hk
  unfold jx_in at hk
  rw [if_neg (by omega), if_neg (by omega)] at hk
  rw [hk]
  exact h
end CSS
