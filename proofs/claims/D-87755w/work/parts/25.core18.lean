/-! THE MACHINE BY NUMBERS, 18: LoopLane's handlers -/
set_option maxRecDepth 100000
theorem jx_nlm {w : Cond} (h : w ∈ lw_tbl) (hw : jx_nw w = true) : w ∈ jx_nl := List.mem_filter.mpr ⟨h, hw⟩
theorem jn_1_2 : Cond.not (.castable "java/lang/NullPointerException" "java/lang/ClassCastException") ∈ flatC (Jvm.Cond.and given_1 narrow_1) := by decide +kernel
theorem jn_1_3 : Cond.not (.castable "java/lang/NullPointerException" "java/lang/ArrayIndexOutOfBoundsException") ∈ flatC (Jvm.Cond.and given_1 narrow_1) := by decide +kernel
theorem jn_1_4 : Cond.not (.castable "java/lang/NullPointerException" "java/lang/ArithmeticException") ∈ flatC (Jvm.Cond.and given_1 narrow_1) := by decide +kernel
theorem jn_1_5 : Cond.not (.castable "java/lang/NullPointerException" "java/lang/NegativeArraySizeException") ∈ flatC (Jvm.Cond.and given_1 narrow_1) := by decide +kernel
theorem jn_1_7 : Cond.not (.castable "java/lang/NullPointerException" "java/lang/IndexOutOfBoundsException") ∈ flatC (Jvm.Cond.and given_1 narrow_1) := by decide +kernel
theorem jn_1_6 : Cond.not (.castable "java/lang/NullPointerException" "LoopLane$Refusal") ∈ flatC (Jvm.Cond.and given_1 narrow_1) := by decide +kernel
theorem jn_2_1 : Cond.not (.castable "java/lang/ClassCastException" "java/lang/NullPointerException") ∈ flatC (Jvm.Cond.and given_1 narrow_1) := by decide +kernel
theorem jn_2_3 : Cond.not (.castable "java/lang/ClassCastException" "java/lang/ArrayIndexOutOfBoundsException") ∈ flatC (Jvm.Cond.and given_1 narrow_1) := by decide +kernel
theorem jn_2_4 : Cond.not (.castable "java/lang/ClassCastException" "java/lang/ArithmeticException") ∈ flatC (Jvm.Cond.and given_1 narrow_1) := by decide +kernel
theorem jn_2_5 : Cond.not (.castable "java/lang/ClassCastException" "java/lang/NegativeArraySizeException") ∈ flatC (Jvm.Cond.and given_1 narrow_1) := by decide +kernel
theorem jn_2_7 : Cond.not (.castable "java/lang/ClassCastException" "java/lang/IndexOutOfBoundsException") ∈ flatC (Jvm.Cond.and given_1 narrow_1) := by decide +kernel
theorem jn_2_6 : Cond.not (.castable "java/lang/ClassCastException" "LoopLane$Refusal") ∈ flatC (Jvm.Cond.and given_1 narrow_1) := by decide +kernel
theorem jn_3_1 : Cond.not (.castable "java/lang/ArrayIndexOutOfBoundsException" "java/lang/NullPointerException") ∈ flatC (Jvm.Cond.and given_1 narrow_1) := by decide +kernel
theorem jn_3_2 : Cond.not (.castable "java/lang/ArrayIndexOutOfBoundsException" "java/lang/ClassCastException") ∈ flatC (Jvm.Cond.and given_1 narrow_1) := by decide +kernel
theorem jn_3_4 : Cond.not (.castable "java/lang/ArrayIndexOutOfBoundsException" "java/lang/ArithmeticException") ∈ flatC (Jvm.Cond.and given_1 narrow_1) := by decide +kernel
theorem jn_3_5 : Cond.not (.castable "java/lang/ArrayIndexOutOfBoundsException" "java/lang/NegativeArraySizeException") ∈ flatC (Jvm.Cond.and given_1 narrow_1) := by decide +kernel
theorem jn_3_6 : Cond.not (.castable "java/lang/ArrayIndexOutOfBoundsException" "LoopLane$Refusal") ∈ flatC (Jvm.Cond.and given_1 narrow_1) := by decide +kernel
theorem jn_4_1 : Cond.not (.castable "java/lang/ArithmeticException" "java/lang/NullPointerException") ∈ flatC (Jvm.Cond.and given_1 narrow_1) := by decide +kernel
theorem jn_4_2 : Cond.not (.castable "java/lang/ArithmeticException" "java/lang/ClassCastException") ∈ flatC (Jvm.Cond.and given_1 narrow_1) := by decide +kernel
theorem jn_4_3 : Cond.not (.castable "java/lang/ArithmeticException" "java/lang/ArrayIndexOutOfBoundsException") ∈ flatC (Jvm.Cond.and given_1 narrow_1) := by decide +kernel
theorem jn_4_5 : Cond.not (.castable "java/lang/ArithmeticException" "java/lang/NegativeArraySizeException") ∈ flatC (Jvm.Cond.and given_1 narrow_1) := by decide +kernel
theorem jn_4_7 : Cond.not (.castable "java/lang/ArithmeticException" "java/lang/IndexOutOfBoundsException") ∈ flatC (Jvm.Cond.and given_1 narrow_1) := by decide +kernel
theorem jn_4_6 : Cond.not (.castable "java/lang/ArithmeticException" "LoopLane$Refusal") ∈ flatC (Jvm.Cond.and given_1 narrow_1) := by decide +kernel
theorem jn_5_1 : Cond.not (.castable "java/lang/NegativeArraySizeException" "java/lang/NullPointerException") ∈ flatC (Jvm.Cond.and given_1 narrow_1) := by decide +kernel
theorem jn_5_2 : Cond.not (.castable "java/lang/NegativeArraySizeException" "java/lang/ClassCastException") ∈ flatC (Jvm.Cond.and given_1 narrow_1) := by decide +kernel
theorem jn_5_3 : Cond.not (.castable "java/lang/NegativeArraySizeException" "java/lang/ArrayIndexOutOfBoundsException") ∈ flatC (Jvm.Cond.and given_1 narrow_1) := by decide +kernel
theorem jn_5_4 : Cond.not (.castable "java/lang/NegativeArraySizeException" "java/lang/ArithmeticException") ∈ flatC (Jvm.Cond.and given_1 narrow_1) := by decide +kernel
theorem jn_5_7 : Cond.not (.castable "java/lang/NegativeArraySizeException" "java/lang/IndexOutOfBoundsException") ∈ flatC (Jvm.Cond.and given_1 narrow_1) := by decide +kernel
theorem jn_5_6 : Cond.not (.castable "java/lang/NegativeArraySizeException" "LoopLane$Refusal") ∈ flatC (Jvm.Cond.and given_1 narrow_1) := by decide +kernel
theorem jn_6_1 : Cond.not (.castable "LoopLane$Refusal" "java/lang/NullPointerException") ∈ flatC (Jvm.Cond.and given_1 narrow_1) := by decide +kernel
theorem jn_6_2 : Cond.not (.castable "LoopLane$Refusal" "java/lang/ClassCastException") ∈ flatC (Jvm.Cond.and given_1 narrow_1) := by decide +kernel
theorem jn_6_3 : Cond.not (.castable "LoopLane$Refusal" "java/lang/ArrayIndexOutOfBoundsException") ∈ flatC (Jvm.Cond.and given_1 narrow_1) := by decide +kernel
theorem jn_6_4 : Cond.not (.castable "LoopLane$Refusal" "java/lang/ArithmeticException") ∈ flatC (Jvm.Cond.and given_1 narrow_1) := by decide +kernel
theorem jn_6_5 : Cond.not (.castable "LoopLane$Refusal" "java/lang/NegativeArraySizeException") ∈ flatC (Jvm.Cond.and given_1 narrow_1) := by decide +kernel
theorem jn_6_7 : Cond.not (.castable "LoopLane$Refusal" "java/lang/IndexOutOfBoundsException") ∈ flatC (Jvm.Cond.and given_1 narrow_1) := by decide +kernel
theorem jx_asg {D : jx_D} {s : State} {x : Int} {c : Nat} {ca cb : ClassId} (hE : jx_En D s) (hc : jx_ct c) (ha : s.vm.findClass (jx_xn x) = some ca) (hb : s.vm.findClass (jx_cn1 c) = some cb) : s.vm.assignable ca cb = jx_fit x c := by
  have hx : x = 1 ∨ x = 2 ∨ x = 3 ∨ x = 4 ∨ x = 5 ∨ (x ≠ 1 ∧ x ≠ 2 ∧ x ≠ 3 ∧ x ≠ 4 ∧ x ≠ 5) := by omega
  rcases hx with rfl | rfl | rfl | rfl | rfl | ⟨y1, y2, y3, y4, y5⟩
  · rcases hc with rfl | rfl | rfl | rfl | rfl | rfl | rfl
    · exact jx_pos hE (jx_nlm q826 rfl) ha hb
    · exact jx_neg hE jn_1_2 ha hb
    · exact jx_neg hE jn_1_3 ha hb
    · exact jx_neg hE jn_1_4 ha hb
    · exact jx_neg hE jn_1_5 ha hb
    · exact jx_neg hE jn_1_7 ha hb
    · exact jx_neg hE jn_1_6 ha hb
  · rcases hc with rfl | rfl | rfl | rfl | rfl | rfl | rfl
    · exact jx_neg hE jn_2_1 ha hb
    · exact jx_pos hE (jx_nlm q758 rfl) ha hb
    · exact jx_neg hE jn_2_3 ha hb
    · exact jx_neg hE jn_2_4 ha hb
    · exact jx_neg hE jn_2_5 ha hb
    · exact jx_neg hE jn_2_7 ha hb
    · exact jx_neg hE jn_2_6 ha hb
  · rcases hc with rfl | rfl | rfl | rfl | rfl | rfl | rfl
    · exact jx_neg hE jn_3_1 ha hb
    · exact jx_neg hE jn_3_2 ha hb
    · exact jx_pos hE (jx_nlm q844 rfl) ha hb
    · exact jx_neg hE jn_3_4 ha hb
    · exact jx_neg hE jn_3_5 ha hb
    · exact jx_pos hE (jx_nlm q1582 rfl) ha hb
    · exact jx_neg hE jn_3_6 ha hb
  · rcases hc with rfl | rfl | rfl | rfl | rfl | rfl | rfl
    · exact jx_neg hE jn_4_1 ha hb
    · exact jx_neg hE jn_4_2 ha hb
    · exact jx_neg hE jn_4_3 ha hb
    · exact jx_pos hE (jx_nlm q1044 rfl) ha hb
    · exact jx_neg hE jn_4_5 ha hb
    · exact jx_neg hE jn_4_7 ha hb
    · exact jx_neg hE jn_4_6 ha hb
  · rcases hc with rfl | rfl | rfl | rfl | rfl | rfl | rfl
    · exact jx_neg hE jn_5_1 ha hb
    · exact jx_neg hE jn_5_2 ha hb
    · exact jx_neg hE jn_5_3 ha hb
    · exact jx_neg hE jn_5_4 ha hb
    · exact jx_pos hE (jx_nlm q794 rfl) ha hb
    · exact jx_neg hE jn_5_7 ha hb
    · exact jx_neg hE jn_5_6 ha hb
  · have ha : s.vm.findClass "LoopLane$Refusal" = some ca := by
      unfold jx_xn at ha
      rw [if_neg y1, if_neg y2, if_neg y3, if_neg y4, if_neg y5] at ha
      exact ha
    have ef : jx_fit x c = (c == 315) := by
      unfold jx_fit
      rw [if_neg y1, if_neg y2, if_neg y3, if_neg y4, if_neg y5]
    rw [ef]
    rcases hc with rfl | rfl | rfl | rfl | rfl | rfl | rfl
    · exact jx_neg hE jn_6_1 ha hb
    · exact jx_neg hE jn_6_2 ha hb
    · exact jx_neg hE jn_6_3 ha hb
    · exact jx_neg hE jn_6_4 ha hb
    · exact jx_neg hE jn_6_5 ha hb
    · exact jx_neg hE jn_6_7 ha hb
    · exact jx_pos hE (jx_nlm q191 rfl) ha hb
def jx_hf : List (Nat × Nat × Nat × Nat) → Nat → Int → Option Nat
  | [], _, _ => none
  | (a, b, h, c) :: t, pc, x => if (decide (a ≤ pc) && decide (pc < b)) && jx_fit x c then some h else jx_hf t pc x
theorem jx_pk_hf (pc : Nat) (x : Int) : ∀ L : List ExceptionTableEntry, jx_pk pc (fun y => jx_fit x y.catchType) L = (match jx_hf (L.map (fun h => (h.startPc, h.endPc, h.handlerPc, h.catchType))) pc x with | some h => .found h | none => .none)
  | [] => rfl
  | y :: t => by
    show (if covers y pc && jx_fit x y.catchType then Handler.found y.handlerPc else jx_pk pc (fun y => jx_fit x y.catchType) t) = (match (if covers y pc && jx_fit x y.catchType then some y.handlerPc else jx_hf (t.map (fun h => (h.startPc, h.endPc, h.handlerPc, h.catchType))) pc x) with | some h => Handler.found h | none => Handler.none)
    by_cases h : (covers y pc && jx_fit x y.catchType) = true
    · rw [if_pos h, if_pos h]
    · rw [if_neg h, if_neg h]
      exact jx_pk_hf pc x t
/-- a method of LoopLane with handlers -/
theorem jx_HK_LL {D : jx_D} {l : Launch} {mt : jx_Mt} (h1 : mt.1 = "LoopLane") (h2 : ∀ q ∈ mt.2.2.2.2.1, jx_ct q.2.2.2) : jx_HK D l mt (jx_hf mt.2.2.2.2.1) := by
  intro pc x z g p e s m args below meth c R T locs cells slots a stk C X hxo
  obtain ⟨x1, -, cell, x3, x4, x5⟩ := hxo rfl
  have x5 : s.vm.findClass (jx_xn x) = some cell.cls := x5
  have x3 : T.heap[z.toNat]? = some cell := x3
  have htb := C.2.2.2.2.2.2.2.2.2.1
  have hown := C.2.2.2.2.2.1
  have hts := C.2.2.2.2.2.2.1
  have hE := C.2.2.2.2.2.2.2.1
  rw [h1] at hown
  have hpl : e.platform.magicAccessors = ({} : Platform).magicAccessors := by rw [X.admits.platform]
  have hvm : ((T.setTop (F0 m pc a stk)).pushFrame (.throwing z.toNat)).vm = T.vm := Stand.throwing_vm _ _ _
  have hrows : ∀ y ∈ c.exceptionTable.toList, covers y (F0 m pc a stk).pc = true → y.catchType ≠ 0 ∧ ∃ cc, s.vm.ClassLinks e.platform (F0 m pc a stk).method.cls y.catchType cc ∧ s.vm.assignable cell.cls cc = (fun y : ExceptionTableEntry => jx_fit x y.catchType) y := by
    intro y hy _
    have hct : jx_ct y.catchType := h2 _ (by rw [← htb]; exact List.mem_map_of_mem hy)
    obtain ⟨c', hc', hcl⟩ := Cond.classLink_spec hown (hts _ (jx_ct_link hct)) e.platform hpl
    refine ⟨by rcases hct with q | q | q | q | q | q | q <;> omega, c', hcl, jx_asg hE hct x5 hc'⟩
  obtain ⟨vm', hW', hq⟩ := jx_goes (e := e) (s₀ := s) (f := F0 m pc a stk) (a := z.toNat) (cell := cell) (fit := fun y => jx_fit x y.catchType) (VmData.ne_statics_of x4) (Vm.classAt_of_findClass x5) c.exceptionTable.toList ((T.setTop (F0 m pc a stk)).pushFrame (.throwing z.toNat)) (by rw [hvm]; exact X.warmed) (by rw [Stand.throwing_heap]; exact x3) hrows
  have hm : ((T.setTop (F0 m pc a stk)).pushFrame (.throwing z.toNat)).vm.method? (F0 m pc a stk).method = some meth := by rw [hvm]; exact X.method'
  have hFT : jx_FT e ((T.setTop (F0 m pc a stk)).pushFrame (.throwing z.toNat)) (F0 m pc a stk) z.toNat (jx_pk pc (fun y => jx_fit x y.catchType) c.exceptionTable.toList) vm' := fun Q E d acts => by
    rw [W.findHandler_eq hm X.code]
    exact hq Q E d acts
  rw [jx_pk_hf, htb] at hFT
  refine ⟨vm', X.noted hW', ?_⟩
  cases hh : jx_hf mt.2.2.2.2.1 pc x with
  | some h =>
    rw [hh] at hFT
    intro target hrest
    exact jx_caught (g := F0 m pc a stk) X.here hFT hrest
  | none =>
    rw [hh] at hFT
    exact jx_left (g := F0 m pc a stk) X.here X.method' C.2.2.2.2.1 rfl rfl (by have := (X.noted hW').method'; exact this) X.tail hFT
