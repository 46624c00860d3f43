/-! THE MACHINE BY NUMBERS, 21: the instructions that throw; casts; athrow -/
set_option maxRecDepth 100000
section XI
variable {D : jx_D} {l : Launch} {mt : jx_Mt} {Po : jx_Po} {pc : Nat} {ls st : List jx_A} {u : Nat × Nat} {g : jx_S} {M : jx_M} {hf : Nat → Int → Option Nat}
/-- an array cell, whatever the index -/
theorem jx_arr0 {s : State} {H : Heap} {k : Nat} {n a : Int} {ty : FieldType} (hE : jx_En D s) (hR : jx_R D g M H) (hk : g.2 a = (k, n)) (hk1 : 10 ≤ k) (hk2 : k < 40) (hty : jx_aty (jx_bk k) = some ty) :
    0 ≤ a ∧ ∃ cell : Cell, H[a.toNat]? = some cell ∧ s.isArrayOf cell ty ∧ cell.vm = .none ∧ (cell.slots.size : Int) = n ∧ n ≤ 2147483647 := by
  obtain ⟨b1, b2, b3, cell, c1, c2, c3, c4, c5⟩ := hR.2.2.2 a (by rw [hk]; exact hk1)
  rw [hk] at b2 b3 c2 c4 c5
  obtain ⟨-, kA, comp, d1, d2, -⟩ := hE.2.1 _ _ hty
  exact ⟨b1, cell, c1, ⟨jx_vms c3, kA, (by rw [c2]; exact d1), comp, d2⟩, c3, c4 hk2, b3.2⟩
theorem jx_oob {i n : Int} {k : Nat} (hi : jx_r i) (h : ¬ (0 ≤ i ∧ i < n)) (hk : (k : Int) = n) : Int32.ofInt i < 0 ∨ k ≤ (Int32.ofInt i).toNatClampNeg := by
  by_cases h0 : i < 0
  · left
    have e : Int32.ofInt 0 = 0 := rfl
    rw [← e, jx_lt hi ⟨by omega, by omega⟩]
    exact h0
  · right
    rw [jx_cn (by omega) hi.2]
    omega
theorem jx_t_laload {i n a q : Int} (hd : decode mt.2.1 pc = .ok (.laload, 1)) (hi : jx_r i) (h : ¬ (0 ≤ i ∧ i < n)) : jx_Thm D l mt pc ls ((0, q, i) :: (11, n, a) :: st) st g M 3 := by
  intro p e R s m args below meth c T locs cells slots lo C X hR hl hs
  have hg := jx_okk (hs _ (List.mem_cons_of_mem _ List.mem_cons_self)) (by omega) (by omega)
  obtain ⟨a1, cell, a2, a3, a4, a5, a6⟩ := jx_arr0 (ty := .long) C.2.2.2.2.2.2.2.1 hR hg (by omega) (by omega) rfl
  refine ⟨T.vm, _, by rw [State.setVm_self]; exact X, index_text_modelled (Int32.ofInt i) cell.slots.size, Nat.le_trans (index_text_bytes _ (by omega)) (by decide), ?_⟩
  rw [State.setVm_self]
  exact X.laloadOut C.1 a2 a3 (jx_oob hi h a5) (g := F0 m pc lo (((0, q, i) :: (11, n, a) :: st).map jx_cv)) rfl (by rw [List.map_cons, List.map_cons, jx_cv_ref (show 2 ≤ 11 by omega) a1]; rfl) (by rw [C.2.1]; exact hd)
theorem jx_t_lastore {i n a v q q' : Int} (hd : decode mt.2.1 pc = .ok (.lastore, 1)) (hi : jx_r i) (h : ¬ (0 ≤ i ∧ i < n)) : jx_Thm D l mt pc ls ((1, q', v) :: (0, q, i) :: (11, n, a) :: st) st g M 3 := by
  intro p e R s m args below meth c T locs cells slots lo C X hR hl hs
  have hg := jx_okk (hs _ (List.mem_cons_of_mem _ (List.mem_cons_of_mem _ List.mem_cons_self))) (by omega) (by omega)
  obtain ⟨a1, cell, a2, a3, a4, a5, a6⟩ := jx_arr0 (ty := .long) C.2.2.2.2.2.2.2.1 hR hg (by omega) (by omega) rfl
  refine ⟨T.vm, _, by rw [State.setVm_self]; exact X, index_text_modelled (Int32.ofInt i) cell.slots.size, Nat.le_trans (index_text_bytes _ (by omega)) (by decide), ?_⟩
  rw [State.setVm_self]
  exact X.lastoreOut C.1 a2 a3 (jx_oob hi h a5) (g := F0 m pc lo (((1, q', v) :: (0, q, i) :: (11, n, a) :: st).map jx_cv)) rfl (by rw [List.map_cons, List.map_cons, List.map_cons, jx_cv_ref (show 2 ≤ 11 by omega) a1]; rfl) (by rw [C.2.1]; exact hd)
theorem jx_t_aaload {k : Nat} {ty : FieldType} {i n a q : Int} (hk1 : 20 ≤ k) (hk2 : k < 40) (hty : jx_aty (jx_bk k) = some ty) (hd : decode mt.2.1 pc = .ok (.aaload, 1)) (hi : jx_r i) (h : ¬ (0 ≤ i ∧ i < n)) : jx_Thm D l mt pc ls ((0, q, i) :: (k, n, a) :: st) st g M 3 := by
  intro p e R s m args below meth c T locs cells slots lo C X hR hl hs
  have hg := jx_okk (hs _ (List.mem_cons_of_mem _ List.mem_cons_self)) (by omega) (by omega)
  obtain ⟨a1, cell, a2, a3, a4, a5, a6⟩ := jx_arr0 C.2.2.2.2.2.2.2.1 hR hg (by omega) hk2 hty
  refine ⟨T.vm, _, by rw [State.setVm_self]; exact X, index_text_modelled (Int32.ofInt i) cell.slots.size, Nat.le_trans (index_text_bytes _ (by omega)) (by decide), ?_⟩
  rw [State.setVm_self]
  exact X.aaloadOut C.1 a2 a3 (jx_oob hi h a5) (g := F0 m pc lo (((0, q, i) :: (k, n, a) :: st).map jx_cv)) rfl (by rw [List.map_cons, List.map_cons, jx_cv_ref (show 2 ≤ k by omega) a1]; rfl) (by rw [C.2.1]; exact hd)
theorem jx_t_ldiv {x q q' : Int} (hd : decode mt.2.1 pc = .ok (.ldiv, 1)) : jx_Thm D l mt pc ls ((1, q, 0) :: (1, q', x) :: st) st g M 4 := by
  intro p e R s m args below meth c T locs cells slots lo C X hR hl hs
  refine ⟨T.vm, "/ by zero", by rw [State.setVm_self]; exact X, by decide +kernel, by decide +kernel, ?_⟩
  rw [State.setVm_self]
  exact X.ldivZero C.1 (g := F0 m pc lo (((1, q, 0) :: (1, q', x) :: st).map jx_cv)) rfl rfl (by rw [C.2.1]; exact hd)
theorem jx_t_newarr {n q : Int} {aty : ArrayType} (hd : decode mt.2.1 pc = .ok (.newarray aty, 2)) (hn : jx_r n) (h : n < 0) : jx_Thm D l mt pc ls ((0, q, n) :: st) st g M 5 := by
  intro p e R s m args below meth c T locs cells slots lo C X hR hl hs
  have hneg : Int32.ofInt n < 0 := by
    have e : Int32.ofInt 0 = 0 := rfl
    rw [← e, jx_lt hn ⟨by omega, by omega⟩]
    exact h
  refine ⟨T.vm, toString (Int32.ofInt n), by rw [State.setVm_self]; exact X, negative_text_modelled hneg, Nat.le_trans (negative_text_bytes _) (by decide), ?_⟩
  rw [State.setVm_self]
  exact X.newarrayNegative C.1 (g := F0 m pc lo (((0, q, n) :: st).map jx_cv)) rfl hneg rfl (by rw [C.2.1]; exact hd)
theorem jx_cv_null {q z : Int} (h : z < 0) : jx_cv (2, q, z) = .null := by
  show (if z < 0 then Value.null else .ref z.toNat) = _
  rw [if_pos h]
theorem jx_t_alen {q z : Int} (hd : decode mt.2.1 pc = .ok (.arraylength, 1)) (hz : z < 0) : jx_Thn D l mt pc ls ((2, q, z) :: st) st g M := by
  intro p e R s m args below meth c T locs cells slots lo C X hR hl hs
  exact X.arraylengthNull C.1 (g := F0 m pc lo (((2, q, z) :: st).map jx_cv)) rfl (by rw [List.map_cons, jx_cv_null hz]) (by rw [C.2.1]; exact hd)
theorem jx_t_athrow {q z : Int} (hd : decode mt.2.1 pc = .ok (.athrow, 1)) (hz : z < 0) : jx_Thn D l mt pc ls ((2, q, z) :: st) st g M := by
  intro p e R s m args below meth c T locs cells slots lo C X hR hl hs
  exact X.athrowNull C.1 (g := F0 m pc lo (((2, q, z) :: st).map jx_cv)) rfl (by rw [List.map_cons, jx_cv_null hz]) (by rw [C.2.1]; exact hd)
/-- a Refusal is thrown; it may stand under the tag of any reference -/
theorem jx_s_athrow {t : Nat} {q z : Int} (hH : jx_HK D l mt hf) (hd : decode mt.2.1 pc = .ok (.athrow, 1)) (ht : 2 ≤ t) (hg : g.2 z = (64, 0)) (hK : jx_Aft D l mt hf Po pc ls u g M 6 z) : jx_V D l mt Po pc ls ((t, q, z) :: st) u g M := by
  intro p e s m args below meth c C H locs a hR hl hs hL hf' h1 h2 T hTH X
  subst hTH
  obtain ⟨b1, b2, b3, cell, c1, c2, c3, c4⟩ := hR.2.2.2 z (by rw [hg]; decide)
  rw [hg] at c2
  obtain ⟨-, hfc, -⟩ := C.2.2.2.2.2.2.2.1.1 44 _ rfl
  have hcv : jx_cv (t, q, z) = .ref z.toNat := jx_cv_ref ht b1
  refine jx_noted (u' := u) (g' := g) (T2 := T) (stk := st.map jx_cv) hH C X jx_sub_rf hR hl hL hf' h1 h2 ?_ hK ?_
  · intro _
    exact ⟨b1, fun _ => hg, cell, c1, by rw [c3]; rfl, by rw [c2]; exact hfc⟩
  · intro target hrest
    have hdg : decode c.code (F0 m pc a (((t, q, z) :: st).map jx_cv)).pc = .ok (.athrow, 1) := by rw [C.2.1]; exact hd
    have hstack : (F0 m pc a (((t, q, z) :: st).map jx_cv)).stack = .ref z.toNat :: st.map jx_cv := by rw [List.map_cons, hcv]
    have hexec := C.1
    have hm : (F0 m pc a (((t, q, z) :: st).map jx_cv)).method = m := rfl
    have X := X
    revert hdg hstack hm
    generalize hfr : F0 m pc a (((t, q, z) :: st).map jx_cv) = fr
    intro hdg hstack hm
    subst hm
    have hF : F0 fr.method pc a (st.map jx_cv) = { fr with stack := st.map jx_cv } := by rw [← hfr]
    rw [hF] at hrest
    jvm_step X.here [hexec, hdg, athrow.wp_sem, hstack]
    exact hrest
/-- casts: null, one that holds, one that fails -/
theorem jx_s_castN {idx : Nat} {q z : Int} (hd : decode mt.2.1 pc = .ok (.checkcast idx, 3)) (hz : z < 0) (h : jx_V D l mt Po (pc + 3) ls ((2, q, z) :: st) u g M) : jx_V D l mt Po pc ls ((2, q, z) :: st) u g M := by
  intro p e s m args below meth c C H locs a hR hl hs hL hf' h1 h2 T hTH X
  obtain ⟨t, q1, q2⟩ := h p e s m args below meth c C H locs a hR hl hs hL hf' h1 h2 T hTH X
  refine ⟨t, ?_, q2⟩
  rw [List.map_cons, jx_cv_null hz] at q1 ⊢
  exact X.checkcastNull C.1 (g := F0 m pc a (.null :: st.map jx_cv)) rfl rfl (by rw [C.2.1]; exact hd) t q1
/-- what stands at z has the class that the word names -/
theorem jx_cls {s : State} {H : Heap} {k : Nat} {n z : Int} {nm : String} (hE : jx_En D s) (hR : jx_R D g M H) (hg : g.2 z = (k, n)) (hk : 10 ≤ k) (hn : (∃ q, jx_cl (jx_bk k) = some q ∧ q.1 = nm) ∨ ∃ ty, jx_aty (jx_bk k) = some ty ∧ "[" ++ ty.toString = nm) :
    0 ≤ z ∧ ∃ cell : Cell, H[z.toNat]? = some cell ∧ cell.vm.isStatics = false ∧ s.vm.findClass nm = some cell.cls := by
  obtain ⟨b1, b2, b3, cell, c1, c2, c3, c4⟩ := hR.2.2.2 z (by rw [hg]; exact hk)
  rw [hg] at c2
  refine ⟨b1, cell, c1, by rw [c3]; rfl, ?_⟩
  rw [c2]
  rcases hn with ⟨q, e1, rfl⟩ | ⟨ty, e1, rfl⟩
  · exact (hE.1 _ _ e1).2.1
  · exact (hE.2.1 _ _ e1).1
theorem jx_s_castY {idx k t : Nat} {q n z : Int} {nm : String} (hd : decode mt.2.1 pc = .ok (.checkcast idx, 3)) (hlink : Cond.classLink mt.1 idx nm ∈ lw_all) (ht : 2 ≤ t) (hg : g.2 z = (k, n)) (hk : 10 ≤ k) (hk2 : k < 80) (hnr : jx_nr k) (hn : (∃ q, jx_cl (jx_bk k) = some q ∧ q.1 = nm) ∨ ∃ ty, jx_aty (jx_bk k) = some ty ∧ "[" ++ ty.toString = nm)
    (h : jx_V D l mt Po (pc + 3) ls ((k, n, z) :: st) u g M) : jx_V D l mt Po pc ls ((t, q, z) :: st) u g M := by
  intro p e s m args below meth c C H locs a hR hl hs hL hf' h1 h2 T hTH X
  subst hTH
  obtain ⟨z0, cell, c1, c2, c3⟩ := jx_cls C.2.2.2.2.2.2.2.1 hR hg hk hn
  have hok : jx_ok1 g (k, n, z) := by
    refine ⟨fun w => (by have : k = 1 := w; omega), fun _ => ?_, fun _ => hnr⟩
    show jx_in k (g.2 z).1 ∧ (g.2 z).2 = n
    rw [hg]
    refine ⟨?_, rfl⟩
    unfold jx_in
    rw [if_neg (by omega), if_neg (by omega)]
  obtain ⟨vm', X', st'⟩ := X.checkcastYes C.1 C.2.2.2.2.2.1 (C.2.2.2.2.2.2.1 _ hlink) c1 c2 c3 (va_asg _ _) (g := F0 m pc a (((t, q, z) :: st).map jx_cv)) (rest := st.map jx_cv) rfl (by rw [List.map_cons, jx_cv_ref ht z0]) (by rw [C.2.1]; exact hd)
  obtain ⟨tt, q1, q2⟩ := h p e s m args below meth c C T.heap locs a hR hl (jx_ok_cons hok (jx_ok_tl hs)) hL hf' h1 h2 (T.setVm vm') rfl X'
  refine ⟨tt, st' tt ?_, q2⟩
  rw [List.map_cons, jx_cv_ref (show 2 ≤ k by omega) z0] at q1
  rw [List.map_cons, jx_cv_ref ht z0]
  exact q1
theorem jx_len (s : String) : (stringBytes (stringToUtf16 s)).size ≤ 4 * s.toList.length := by
  have b1 := stringBytes_size_le (stringToUtf16 s)
  have b2 := utf16_size_le s
  omega
theorem jx_dot (s : String) : (dotted s).toList.length = s.toList.length := by
  unfold dotted turned
  rw [String.toList_ofList, List.length_map]
theorem jx_hid {vm : Vm} {name : String} {c : ClassId} {k : Class} (h : vm.findClass name = some c) (hk : vm.classes[c]? = some k) : k.hidden = none := by
  obtain ⟨hlt, hp, _⟩ := Array.findIdx?_eq_some_iff_getElem.mp h
  have : vm.classes[c] = k := by simpa [hlt] using hk
  rw [this] at hp
  simp only [Bool.and_eq_true, Option.isNone_iff_eq_none] at hp
  exact hp.1.1.2
theorem jx_shown {vm : Vm} {name : String} {c : ClassId} {k : Class} (h : vm.findClass name = some c) (hk : vm.classes[c]? = some k) : k.shown.toList.length = name.toList.length := by
  obtain ⟨k', h1, h2⟩ := Vm.findClass_spec h
  cases hk.symm.trans h1
  unfold Class.shown
  rw [jx_hid h hk]
  show (dotted k.name).toList.length = _
  rw [jx_dot, h2]
end XI
