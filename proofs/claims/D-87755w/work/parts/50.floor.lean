/-! methods of a class that the model overrides in part; Math.floorDiv -/
set_option maxRecDepth 100000
theorem jx_Ct_bodyF {l : Launch} {y : MethodName} {w0 : Cond} {cc : ByteArray} {nL rc : Nat} {hh : List (Nat × Nat × Nat × Nat)} {d kc ks : Nat} {ret : Option FieldType} {S : jx_Sp} (hy : plainFor y = true) (hrt : jx_rt rc ret)
    (hw : ∀ (a : Array Value) (U : State) (m : MethodId), U.methodNamed? y = some m → w0.before a U = true → ∃ meth c, U.vm.method? m = some meth ∧ meth.code = some c ∧ c.code = cc ∧ c.maxLocals = nL ∧ meth.sig.returnType = ret ∧ meth.locks = false ∧ c.exceptionTable.toList.map (fun h => (h.startPc, h.endPc, h.handlerPc, h.catchType)) = hh)
    (hV : ∀ (D : jx_D) (as : List jx_A) (g : jx_S) (M : jx_M) (Po : jx_Po), S as g M Po → jx_wd as ≤ nL ∧ jx_V D l (y.cls, cc, nL, rc, hh, d, kc, ks, y.name) Po 0 (jx_en as nL) [] (0, 0) g M) : jx_Ct l y (w0 :: lw_all) d kc ks S := by
  intro D as g M Po hS
  obtain ⟨hwd, hV⟩ := hV D as g M Po hS
  refine MetFree.of_bodySF (code := cc) (maxLocals := nL) (ret := ret) hy ?_ ?_
  · intro args s m h hn
    obtain ⟨meth, c, h1, h2, h3, h4, h5, h6, -⟩ := hw args s m hn (atoms_spec (ws := w0 :: lw_all) h _ List.mem_cons_self)
    exact ⟨meth, c, h1, h2, h3, h4, h5, h6⟩
  · intro p e s m args below meth c s₁ B hml hP _
    obtain ⟨rfl, hfl, hE, hR, hok⟩ := hP
    have hat := atoms_spec (ws := w0 :: lw_all) B.pre
    obtain ⟨meth', c', h1, h2, -, -, -, -, h7⟩ := hw _ s m B.named (hat _ List.mem_cons_self)
    cases B.method.symm.trans h1
    cases (Stand.of_body B).code.symm.trans h2
    have hts : ∀ w ∈ lw_all, w.before (as.map jx_cv).toArray s = true := fun w h => hat w (List.mem_cons_of_mem _ h)
    have C : jx_C D l (y.cls, cc, nL, rc, hh, d, kc, ks, y.name) p s m (as.map jx_cv).toArray meth c := ⟨B.exec, B.bytes, hml, by rw [B.returns]; exact hrt, B.notSynchronized, findClass_of_methodNamed B.named, hts, hE, hfl, h7, (name_of_methodNamed B.named B.method).1, by have := hR.2.1; exact this, hR.2.2.1⟩
    have hlen : (lg_sl (as.map jx_cv)).length ≤ nL := by rw [jx_wd_len]; exact hwd
    have hl := lv_entry (as.map jx_cv) (n := nL) hlen
    have hLs : jx_Ls ((lg_sl (as.map jx_cv) ++ List.replicate (nL - (lg_sl (as.map jx_cv)).length) Slot.unset).toArray) nL (jx_en as nL) := by
      refine ⟨hl.1, hl.2.1, jx_en_len as nL hwd, fun k v hk hv => ?_⟩
      have := (jx_en_spec as nL 0 k v hk hv).2
      rw [Nat.zero_add] at this
      exact hl.2.2 (k, jx_cv v) this
    have hokl : jx_ok g (jx_en as nL) := jx_ok_of fun k v hk hv => hok v (jx_en_spec as nL 0 k v hk hv).1
    have hh0 : s₁.heap = s.heap := by rw [B.state]; rfl
    have K := hV p e s m (as.map jx_cv).toArray below meth c C s.heap [] _ hR hokl (fun v hv => by simp at hv) hLs (fun q hq => by simp at hq) (Nat.zero_le _) (Nat.zero_le _) s₁ hh0 (Stand.of_body B)
    obtain ⟨t, a1, o, b1, b2, b3⟩ := K
    rw [lg_entry_eq]
    exact ⟨t, o, a1, b1, b2, b3⟩
theorem jx_Ct_cF {l : Launch} {y : MethodName} {cc : ByteArray} {nL rc : Nat} {d kc ks : Nat} {ret : Option FieldType} {S : jx_Sp} (hy : plainFor y = true) (hrt : jx_rt rc ret)
    (hV : ∀ (D : jx_D) (as : List jx_A) (g : jx_S) (M : jx_M) (Po : jx_Po), S as g M Po → jx_wd as ≤ nL ∧ jx_V D l (y.cls, cc, nL, rc, [], d, kc, ks, y.name) Po 0 (jx_en as nL) [] (0, 0) g M) : jx_Ct l y (ws_ y cc nL ret) d kc ks S := by
  refine jx_Ct_bodyF hy hrt (fun a U m hm hw => ?_) hV
  obtain ⟨meth, c, h1, h2, h3, h4, h5, h6, h7, -⟩ := Cond.code_spec hm hw
  exact ⟨meth, c, h1, h2, h3, h4, h5, h6, by rw [Array.isEmpty_iff] at h7; rw [h7]; rfl⟩
section JX
variable {D : jx_D} {l : Launch} {mt : jx_Mt} {Po : jx_Po} {pc : Nat} {ls st : List jx_A} {u : Nat × Nat} {g : jx_S} {M : jx_M}
def jx_xor (x y : Int) : Int := (Int32.ofInt x ^^^ Int32.ofInt y).toInt
theorem jx_s_ixor {x y n m : Int} (hd : decode mt.2.1 pc = .ok (.ixor, 1)) (h : jx_V D l mt Po (pc + 1) ls ((0, 0, jx_xor x y) :: st) u g M) : jx_V D l mt Po pc ls ((0, n, y) :: (0, m, x) :: st) u g M :=
  jx_pure h (fun q => jx_ok_cons jx_ok_i (jx_ok_tl (jx_ok_tl q))) fun _ _ _ _ _ _ _ _ _ _ _ _ _ _ _ hx hb _ k => lv_ixor hx hb hd (by rw [List.map_cons, jx_xor, jx_cvI] at k; exact k)
end JX
theorem jx_xor_s {x y : Int} (hx : jx_r x) (hy : 0 ≤ y ∧ y ≤ 2147483647) : (jx_r (jx_xor x y)) ∧ (0 ≤ jx_xor x y ↔ 0 ≤ x) := by
  refine ⟨jx_rI _, ?_⟩
  unfold jx_xor
  have e1 : ∀ z : Int32, (z.toInt < 0) ↔ z.toBitVec.msb = true := fun z => by
    rw [BitVec.msb_eq_toInt, decide_eq_true_iff]
    exact Iff.rfl
  have e2 : (Int32.ofInt y).toBitVec.msb = false := by
    have := e1 (Int32.ofInt y)
    rw [jx_ti ⟨by omega, hy.2⟩] at this
    cases h : (Int32.ofInt y).toBitVec.msb with
    | false => rfl
    | true => exact absurd (this.mpr h) (by omega)
  have e3 := e1 (Int32.ofInt x ^^^ Int32.ofInt y)
  have e4 := e1 (Int32.ofInt x)
  rw [Int32.toBitVec_xor, BitVec.msb_xor, e2] at e3
  rw [jx_ti hx] at e4
  simp only [Bool.xor_false] at e3
  constructor
  · intro h
    by_cases c : x < 0
    · exact absurd (e3.mpr (e4.mp c)) (by omega)
    · omega
  · intro h
    by_cases c : (Int32.ofInt x ^^^ Int32.ofInt y).toInt < 0
    · exact absurd (e4.mpr (e3.mp c)) (by omega)
    · omega
def js_J10_floorDiv : jx_Sp := fun as g M Po => match as with
  | [(0, _, x), (0, _, y)] => (jx_r x ∧ 1 ≤ y ∧ y ≤ 1000) ∧ Po (0, 0, x / y) g M
  | _ => False
set_option maxHeartbeats 4000000 in
theorem jt_J10_floorDiv (l : Launch) : jx_Ct l yJ10_floorDiv (ws_ yJ10_floorDiv cJ10_floorDiv 3 (some .int)) 0 0 0 js_J10_floorDiv := by
  refine jx_Ct_cF (rc := 0) (by decide +kernel) rfl (fun D as g M Po hS => ?_)
  unfold js_J10_floorDiv at hS
  split at hS
  · rename_i n1 x n2 y
    obtain ⟨⟨rx, y1, y2⟩, hP⟩ := hS
    refine ⟨Nat.le_of_ble_eq_true rfl, ?_⟩
    obtain ⟨x1, x2⟩ := jx_xor_s (y := y) rx ⟨by omega, by omega⟩
    have t1 : 0 ≤ x → x.tdiv y = x / y := fun h => Int.tdiv_eq_ediv_of_nonneg h
    have t2 : x < 0 → x.tdiv y = -((-x) / y) := fun h => by
      rw [show x = -(-x) by omega, Int.neg_tdiv, Int.tdiv_eq_ediv_of_nonneg (by omega)]
      simp
    have t3 := Int.emod_nonneg x (show y ≠ 0 by omega)
    have t4 := Int.emod_lt_of_pos x (show 0 < y by omega)
    have t5 := Int.mul_ediv_add_emod x y
    have t6 := Int.emod_nonneg (-x) (show y ≠ 0 by omega)
    have t7 := Int.emod_lt_of_pos (-x) (show 0 < y by omega)
    have t8 := Int.mul_ediv_add_emod (-x) y
    refine jx_runL (o := jo_J10) (cs := []) (hf := jx_nh) jo_J10_ok jx_cs0 (jx_HK_nil rfl) (fun p => p == 6) 40 ?_
    simp only [jw, ju, jx_tg, Int.cast_ofNat_Int, Int.reduceAdd, Int.reduceToNat, Nat.reduceAdd, Nat.reduceMul, Nat.reduceBEq, Nat.reduceLeDiff, Int.reduceLE, Int.reduceLT, Int.reduceEq, Int.reduceNeg, Int.reduceSub, Int.reduceMul, not_false_eq_true, true_and, and_true, and_self, Bool.or_false, Bool.false_or, Bool.or_true, Bool.true_or, List.length_nil, List.length_cons, Nat.zero_le, or_true, true_or, Nat.le_refl, ↓reduceIte, Nat.reduceEqDiff, forall_const, false_and, and_false, false_implies, implies_true, not_true_eq_false, or_false, false_or, ne_eq, jd_J10_floorDiv]
    refine ⟨⟨rx, ⟨by omega, by omega⟩, by omega⟩, ?_⟩
    refine jx_s_ixor (by decide +kernel) ?_
    refine jx_runL (o := jo_J10) (cs := []) (hf := jx_nh) jo_J10_ok jx_cs0 (jx_HK_nil rfl) (fun _ => false) 40 ?_
    simp only [jw, ju, jx_tg, Int.cast_ofNat_Int, Int.reduceAdd, Int.reduceToNat, Nat.reduceAdd, Nat.reduceMul, Nat.reduceBEq, Nat.reduceLeDiff, Int.reduceLE, Int.reduceLT, Int.reduceEq, Int.reduceNeg, Int.reduceSub, Int.reduceMul, not_false_eq_true, true_and, and_true, and_self, Bool.or_false, Bool.false_or, Bool.or_true, Bool.true_or, List.length_nil, List.length_cons, Nat.zero_le, or_true, true_or, Nat.le_refl, ↓reduceIte, Nat.reduceEqDiff, forall_const, false_and, and_false, false_implies, implies_true, not_true_eq_false, or_false, false_or, ne_eq, jd_J10_floorDiv]
    have hd : y * (x / y + -x / y) = y * (x / y) + y * (-x / y) := Int.mul_add ..
    have d1 : 1 ≤ x / y + -x / y → y * 1 ≤ y * (x / y + -x / y) := fun h => Int.mul_le_mul_of_nonneg_left h (by omega)
    have d2 : x / y + -x / y ≤ -2 → y * (x / y + -x / y) ≤ y * (-2) := fun h => Int.mul_le_mul_of_nonneg_left h (by omega)
    have d3 : x / y + -x / y = -1 → y * (x / y + -x / y) = y * (-1) := fun h => by rw [h]
    have d4 : x / y + -x / y = 0 → y * (x / y + -x / y) = 0 := fun h => by rw [h, Int.mul_zero]
    refine ⟨x1, fun c => ?_, fun c => ?_⟩
    · rw [t1 (x2.mp c)]
      exact hP
    · have hx : x < 0 := by
        by_cases w : 0 ≤ x
        · exact absurd (x2.mpr w) c
        · omega
      rw [t2 hx]
      have hm : -(-x / y) * y = -(y * (-x / y)) := by rw [Int.neg_mul, Int.mul_comm]
      rw [hm]
      have rx1 := rx.1
      have rx2 := rx.2
      refine ⟨⟨⟨by omega, by omega⟩, rx1, rx2⟩, fun w => ?_, fun w => ?_⟩
      · rw [show -(-x / y) = x / y by omega]
        exact hP
      · rw [show -(-x / y) - 1 = x / y by omega]
        exact hP
  · exact hS.elim
