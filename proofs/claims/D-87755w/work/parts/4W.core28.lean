/-! THE MACHINE BY NUMBERS, 28: System.arraycopy out of bounds, in a walk -/
set_option maxRecDepth 100000
section XO
variable {D : jx_D} {l : Launch} {mt : jx_Mt} {Po : jx_Po} {pc : Nat} {ls st : List jx_A} {u : Nat × Nat} {g : jx_S} {M : jx_M} {hf : Nat → Int → Option Nat}
theorem jx_s_copyF {idx : Nat} {a b i j n ns nd q1 q2 q3 : Int} (hH : jx_HK D l mt hf) (hx : jx_xg 3) (hd : decode mt.2.1 pc = .ok (.invokestatic idx, 3)) (hlink : Cond.methodLink mt.1 idx arraycopyName ∈ lw_all) (hd1 : 1 ≤ mt.2.2.2.2.2.1) (ri : jx_r i) (rj : jx_r j) (rn : jx_r n)
    (hout : ¬ (0 ≤ i ∧ 0 ≤ j ∧ 0 ≤ n ∧ i + n ≤ ns ∧ j + n ≤ nd)) (hlen : st.length ≤ 12) (hu : u.1 + 3 ≤ mt.2.2.2.2.2.2.1 ∧ u.2 + 2000 ≤ mt.2.2.2.2.2.2.2.1)
    (hK : jx_Aft D l mt hf Po pc ls (u.1 + 3, u.2 + 2000) (g.1 + 3, g.2) M 3 ((g.1 : Int) + 2)) : jx_V D l mt Po pc ls ((0, q1, n) :: (0, q2, j) :: (11, nd, b) :: (0, q3, i) :: (11, ns, a) :: st) u g M := by
  obtain ⟨w1, w2, w3, w4, w5, w6, w7⟩ := hx
  intro p e s m args below meth c C H locs lo hR hl hs hL hf' h1 h2 T hTH X
  subst hTH
  have hE := C.2.2.2.2.2.2.2.1
  have gb := jx_okk (hs (11, nd, b) (by simp)) (by decide) (by decide)
  have ga := jx_okk (hs (11, ns, a) (by simp)) (by decide) (by decide)
  obtain ⟨a1, cs, a2, ⟨a3, kA, a4, cmA, a5⟩, a6, a7, a8⟩ := jx_arr0 (ty := .long) hE hR ga (by decide) (by decide) rfl
  obtain ⟨b1, cd, b2, ⟨b3, kB, b4, cmB, b5⟩, b6, b7, b8⟩ := jx_arr0 (ty := .long) hE hR gb (by decide) (by decide) rfl
  have hsum := jx_cat_sum st
  have hwords : nativeFrameWords "java/lang/System" "arraycopy" 5 ≤ 100 := by decide +kernel
  have hneg : ∀ z : Int, jx_r z → (Int32.ofInt z < 0 ↔ z < 0) := fun z hz => by
    have e0 : Int32.ofInt 0 = 0 := rfl
    rw [← e0, jx_lt hz ⟨by omega, by omega⟩]
  obtain ⟨r, kS, methS, hnS, hmS, hkS, N⟩ := NativeOf.of_static (C.2.2.2.2.2.2.1 _ q869) (C.2.2.2.2.2.2.1 _ q868) (ps := [.object "java/lang/Object", .int, .object "java/lang/Object", .int, .int]) (ret := none) (by decide +kernel)
  have hinitS : kS.init = .initialized := Cond.initialized_spec (findClass_of_methodNamed hnS) hkS (C.2.2.2.2.2.2.1 _ q96)
  have hstk : (F0 m pc lo (((0, q1, n) :: (0, q2, j) :: (11, nd, b) :: (0, q3, i) :: (11, ns, a) :: st).map jx_cv)).stack = [.ref a.toNat, .int (Int32.ofInt i), .ref b.toNat, .int (Int32.ofInt j), .int (Int32.ofInt n)].reverse ++ st.map jx_cv := by
    simp only [List.map_cons]
    rw [jx_cv_ref (show 2 ≤ 11 by omega) a1, jx_cv_ref (show 2 ≤ 11 by omega) b1]
    rfl
  obtain ⟨vm', X', step⟩ := X.invokestatic C.1 C.2.2.2.2.2.1 (C.2.2.2.2.2.2.1 _ hlink) hnS hmS N.static hkS hinitS (by decide) (g := F0 m pc lo (((0, q1, n) :: (0, q2, j) :: (11, nd, b) :: (0, q3, i) :: (11, ns, a) :: st).map jx_cv)) rfl
    (argsL := [.ref a.toNat, .int (Int32.ofInt i), .ref b.toNat, .int (Int32.ofInt j), .int (Int32.ofInt n)]) (rest := st.map jx_cv) (by rw [N.sig]; rfl) hstk (by rw [C.2.1]; exact hd)
  have hA' : s.vm.Alike vm' := X'.warmed.alike
  obtain ⟨kS', N'⟩ := N.alike hA'
  obtain ⟨ks', hks', hes⟩ := hA'.2.2 _ _ a4
  obtain ⟨kd', hkd', hed⟩ := hA'.2.2 _ _ b4
  have hsee : seenByNative methS #[.ref a.toNat, .int (Int32.ofInt i), .ref b.toNat, .int (Int32.ofInt j), .int (Int32.ofInt n)] = #[.ref a.toNat, .int (Int32.ofInt i), .ref b.toNat, .int (Int32.ofInt j), .int (Int32.ofInt n)] := by
    simp [seenByNative, N.static, N.sig, narrow]
  have hout' : Int32.ofInt i < 0 ∨ Int32.ofInt j < 0 ∨ Int32.ofInt n < 0 ∨ (Int32.ofInt i).toInt + (Int32.ofInt n).toInt > cs.slots.size ∨ (Int32.ofInt j).toInt + (Int32.ofInt n).toInt > cd.slots.size := by
    rw [hneg i ri, hneg j rj, hneg n rn, jx_ti ri, jx_ti rj, jx_ti rn]
    omega
  obtain ⟨text, t1, t2, t3⟩ := jx_copy_wp (e := e) (d := false) (acts := []) (s := ((T.setVm vm').setTop (F0 m pc lo (st.map jx_cv))).pushFrame (.native { method := r, args := seenByNative methS #[.ref a.toNat, .int (Int32.ofInt i), .ref b.toNat, .int (Int32.ofInt j), .int (Int32.ofInt n)], locked := none })) (src := a.toNat) (dst := b.toNat) (i := Int32.ofInt i) (j := Int32.ofInt j) (n := Int32.ofInt n) (cs := cs) (cd := cd) (ks := ks') (kd := kd') (sComp := cmA) (dComp := cmB) a2 b2 a3 b3 hks' hkd' (by rw [hes]; exact a5) (by rw [hed]; exact b5) (by omega) (by omega) hout'
  obtain ⟨T2, L, n', cell, X2, hn, hLb, hsz, hq, hcell, hst, hcls, hgo⟩ := jx_note_nat (D := D) (nf := { method := r, args := seenByNative methS #[.ref a.toNat, .int (Int32.ofInt i), .ref b.toNat, .int (Int32.ofInt j), .int (Int32.ofInt n)], locked := none }) rfl rfl rfl (X := jx_xn 3) (names := jx_nms 3) (text := text) (g := F0 m pc lo (st.map jx_cv)) (k := 1990) X' C.1 (jx_htr C.2.2.2.2.2.2.2.2.1 X.admits) w2 w3 w4 w5 (jx_words C.2.2.2.2.2.2.1 hE C.2.2.2.2.2.2.2.2.2.2.2.2 w1) hE.2.2.2.2.1 hE.2.2.2.2.2.1 hR.2.2.1 t1 t2
    (by rw [Launch.admits_arrayLengthLimit X.admits]; decide) (by rw [Launch.admits_maxHeapBytes X.admits]; decide +kernel) rfl (by rw [C.2.2.1]; exact hL.1) (by show _ < 8 + _; omega) (by show 2 * 0 + ((st.map jx_cv).map fun v => v.category).sum + 10240 ≤ 20000 + 100 * _; omega) (by omega) hu.1 hu.2
  have hg1 : T.heap.size = g.1 := hR.1
  have hLb : ∀ q ∈ L, q.base = T.heap.size + 2 := hLb
  have hlocs : ∀ q ∈ locs ++ L, D.2.2.size ≤ q.base := fun q hq' => by
    rcases List.mem_append.mp hq' with z | z
    · exact hf' q z
    · have := hR.2.1
      rw [hLb q z]
      omega
  have ez : ((g.1 : Int) + 2).toNat = T.heap.size + 2 := by omega
  have hX2 : Stand p l e (jx_rm mt.2.2.2.2.2.1 mt.2.2.2.2.2.2.1 mt.2.2.2.2.2.2.2.1) s m args below meth c T2 (locs ++ L) (u.1 + 3) (u.2 + 2000) := ⟨X2.admits, X2.cas, X2.clock, X2.frames, X2.room, X2.hears, X2.method, X2.code, X2.here, X2.tail, X2.warmed, X2.limits, X2.bytes, X2.same.weaken (fun _ h _ => h) (Nat.le_refl _) (by omega)⟩
  refine jx_noted (u' := (u.1 + 3, u.2 + 2000)) (g' := (g.1 + 3, g.2)) (T2 := T2) (stk := st.map jx_cv) hH C hX2 jx_sub_grow (jx_R_grow hR 3 hsz hq) hl hL hlocs hu.1 hu.2 ?_ hK ?_
  · intro _
    refine ⟨by show (0 : Int) ≤ (g.1 : Int) + 2; omega, fun q => absurd q w7, cell, ?_, hst, hcls⟩
    show T2.heap[((g.1 : Int) + 2).toNat]? = _
    rw [ez]
    exact hcell
  · rw [ez]
    intro target hrest
    refine step target fun acts => ?_
    refine jx_natThrows (g := F0 m pc lo (st.map jx_cv)) (row := arraycopyRow) X'.here acts N'.cls N'.meth N'.boot N'.native N'.noCode N'.noLock (by rw [N'.className, N'.name, N'.desc]; exact arraycopy_row p)
      (by rw [N'.className, N'.name]; exact X'.notFull (g := F0 m pc lo (st.map jx_cv)) (by show lo.size = _; rw [C.2.2.1]; exact hL.1) (vars := nativeFrameWords "java/lang/System" "arraycopy" 5) (by show 1 ≤ 8 + mt.2.2.2.2.2.1; omega) (by show 2 * 0 + ((st.map jx_cv).map fun v => v.category).sum + (nativeFrameWords "java/lang/System" "arraycopy" 5 + 11) ≤ 20000 + 100 * mt.2.2.2.2.2.1; omega)) (cls := jx_xn 3) (text := text) ?_ (hgo target hrest)
    rw [hsee] at t3 ⊢
    rw [arraycopyRow_sem]
    simp only [wpRun]
    exact t3 _ _ (fun _ => ⟨rfl, rfl⟩)
end XO
