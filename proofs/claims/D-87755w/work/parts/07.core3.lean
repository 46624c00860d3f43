/-! THE MACHINE BY NUMBERS, 3: every arm of jx_wI is sound: stack, locals, numbers -/
section JS
variable {D : jx_D} {l : Launch} {mt : jx_Mt} {Po : jx_Po} {pc : Nat} {ls st : List jx_A} {u : Nat × Nat} {g : jx_S} {M : jx_M}
theorem jx_ok_tl {v : jx_A} (h : jx_ok g (v :: st)) : jx_ok g st := fun w hw => h w (List.mem_cons_of_mem _ hw)
theorem jx_ok_cons {v : jx_A} (hv : jx_ok1 g v) (h : jx_ok g st) : jx_ok g (v :: st) := fun w hw => by
  rcases List.mem_cons.mp hw with rfl | q
  · exact hv
  · exact h w q
theorem jx_ok_i {n z : Int} : jx_ok1 g (0, n, z) := ⟨fun h => (by simp at h), fun h => (by simp at h), fun h => (by simp at h)⟩
theorem jx_ok_l {n z : Int} (h : jx_r64 z) : jx_ok1 g (1, n, z) := ⟨fun _ => h, fun h => (by simp at h), fun h => (by simp at h)⟩
theorem jx_ok_n {n z : Int} : jx_ok1 g (2, n, z) := ⟨fun h => (by simp at h), fun h => (by simp at h), fun h => (by simp at h)⟩
/-- an instruction that works on the stack alone -/
theorem jx_pure {pc' : Nat} {st' : List jx_A} (h : jx_V D l mt Po pc' ls st' u g M) (hok : jx_ok g st → jx_ok g st')
    (hW : ∀ (p : Program) (e : Env) (R : Room) (s : State) (m : MethodId) (args : Array Value) (below : List Frame) (meth : Method) (c : Code) (H : Heap) (locs : List Loc) (k n : Nat) (Q : State → Prop) (a : Array Slot), p.tables.exec = Jvm.exec → c.code = mt.2.1 → jx_ok g st →
      W p l e R s m args below meth c H locs k n Q (F0 m pc' a (st'.map jx_cv)) → W p l e R s m args below meth c H locs k n Q (F0 m pc a (st.map jx_cv))) : jx_V D l mt Po pc ls st u g M := by
  intro p e s m args below meth c C H locs a hR hl hs hL hf h1 h2
  exact hW _ _ _ _ _ _ _ _ _ _ _ _ _ _ _ C.1 C.2.1 hs (h p e s m args below meth c C H locs a hR hl (hok hs) hL hf h1 h2)
theorem jx_s_iconst {v : Int} (hd : decode mt.2.1 pc = .ok (.iconst v, 1)) (h : jx_V D l mt Po (pc + 1) ls ((0, 0, v) :: st) u g M) : jx_V D l mt Po pc ls st u g M :=
  jx_pure h (jx_ok_cons jx_ok_i) fun _ _ _ _ _ _ _ _ _ _ _ _ _ _ _ hx hb _ k => lv_iconst hx hb hd rfl k
theorem jx_i8 {v : Int} (h : -128 ≤ v ∧ v ≤ 127) : (Int8.ofInt v).toInt32 = Int32.ofInt v := by
  have h1 := h.1
  have h2 := h.2
  rw [← Int32.toInt_inj, Int8.toInt_toInt32, Int8.toInt_ofInt, jx_ti ⟨by omega, by omega⟩]
  simp only [Int.bmod, Int8.size]
  omega
theorem jx_i16 {v : Int} (h : -32768 ≤ v ∧ v ≤ 32767) : (Int16.ofInt v).toInt32 = Int32.ofInt v := by
  have h1 := h.1
  have h2 := h.2
  rw [← Int32.toInt_inj, Int16.toInt_toInt32, Int16.toInt_ofInt, jx_ti ⟨by omega, by omega⟩]
  simp only [Int.bmod, Int16.size]
  omega
theorem jx_s_bipush {v : Int} (hd : decode mt.2.1 pc = .ok (.bipush v, 2)) (hv : -128 ≤ v ∧ v ≤ 127) (h : jx_V D l mt Po (pc + 2) ls ((0, 0, v) :: st) u g M) : jx_V D l mt Po pc ls st u g M :=
  jx_pure h (jx_ok_cons jx_ok_i) fun _ _ _ _ _ _ _ _ _ _ _ _ _ _ _ hx hb _ k => lv_bipush hx hb hd (jx_i8 hv) k
theorem jx_s_sipush {v : Int} (hd : decode mt.2.1 pc = .ok (.sipush v, 3)) (hv : -32768 ≤ v ∧ v ≤ 32767) (h : jx_V D l mt Po (pc + 3) ls ((0, 0, v) :: st) u g M) : jx_V D l mt Po pc ls st u g M :=
  jx_pure h (jx_ok_cons jx_ok_i) fun _ _ _ _ _ _ _ _ _ _ _ _ _ _ _ hx hb _ k => lv_sipush hx hb hd (jx_i16 hv) k
theorem jx_s_lconst {v : Fin 2} (hd : decode mt.2.1 pc = .ok (.lconst v, 1)) (h : jx_V D l mt Po (pc + 1) ls ((1, 0, (v.val : Int)) :: st) u g M) : jx_V D l mt Po pc ls st u g M :=
  jx_pure h (jx_ok_cons (jx_ok_l ⟨by omega, by omega⟩)) fun _ _ _ _ _ _ _ _ _ _ _ _ _ _ _ hx hb _ k => lv_lconst hx hb hd rfl k
theorem jx_s_null (hd : decode mt.2.1 pc = .ok (.aconst_null, 1)) (h : jx_V D l mt Po (pc + 1) ls ((2, 0, -1) :: st) u g M) : jx_V D l mt Po pc ls st u g M :=
  jx_pure h (jx_ok_cons jx_ok_n) fun _ _ _ _ _ _ _ _ _ _ _ _ _ _ _ hx hb _ k => lv_null hx hb hd k
theorem jx_s_iadd {x y n m : Int} (hd : decode mt.2.1 pc = .ok (.iadd, 1)) (h : jx_V D l mt Po (pc + 1) ls ((0, 0, x + y) :: st) u g M) : jx_V D l mt Po pc ls ((0, n, y) :: (0, m, x) :: st) u g M :=
  jx_pure h (fun q => jx_ok_cons jx_ok_i (jx_ok_tl (jx_ok_tl q))) fun _ _ _ _ _ _ _ _ _ _ _ _ _ _ _ hx hb _ k => lv_iadd hx hb hd (by rw [← Int32.ofInt_add]; exact k)
theorem jx_s_isub {x y n m : Int} (hd : decode mt.2.1 pc = .ok (.isub, 1)) (h : jx_V D l mt Po (pc + 1) ls ((0, 0, x - y) :: st) u g M) : jx_V D l mt Po pc ls ((0, n, y) :: (0, m, x) :: st) u g M :=
  jx_pure h (fun q => jx_ok_cons jx_ok_i (jx_ok_tl (jx_ok_tl q))) fun _ _ _ _ _ _ _ _ _ _ _ _ _ _ _ hx hb _ k => lv_isub hx hb hd (by rw [← Int32.ofInt_sub]; exact k)
theorem jx_s_imul {x y n m : Int} (hd : decode mt.2.1 pc = .ok (.imul, 1)) (h : jx_V D l mt Po (pc + 1) ls ((0, 0, x * y) :: st) u g M) : jx_V D l mt Po pc ls ((0, n, y) :: (0, m, x) :: st) u g M :=
  jx_pure h (fun q => jx_ok_cons jx_ok_i (jx_ok_tl (jx_ok_tl q))) fun _ _ _ _ _ _ _ _ _ _ _ _ _ _ _ hx hb _ k => lv_imul hx hb hd (by rw [← Int32.ofInt_mul]; exact k)
theorem jx_s_ineg {x n : Int} (hd : decode mt.2.1 pc = .ok (.ineg, 1)) (h : jx_V D l mt Po (pc + 1) ls ((0, 0, -x) :: st) u g M) : jx_V D l mt Po pc ls ((0, n, x) :: st) u g M :=
  jx_pure h (fun q => jx_ok_cons jx_ok_i (jx_ok_tl q)) fun _ _ _ _ _ _ _ _ _ _ _ _ _ _ _ hx hb _ k => lv_ineg hx hb hd (by rw [← Int32.ofInt_neg]; exact k)
theorem jx_s_idiv {x y n m : Int} (hd : decode mt.2.1 pc = .ok (.idiv, 1)) (q : jx_r x ∧ jx_r y ∧ y ≠ 0) (h : jx_V D l mt Po (pc + 1) ls ((0, 0, x.tdiv y) :: st) u g M) : jx_V D l mt Po pc ls ((0, n, y) :: (0, m, x) :: st) u g M :=
  jx_pure h (fun q => jx_ok_cons jx_ok_i (jx_ok_tl (jx_ok_tl q))) fun _ _ _ _ _ _ _ _ _ _ _ _ _ _ _ hx hb _ k => lv_idiv hx hb hd (jx_ne0 q.2.1 q.2.2) (by rw [jx_div q.1 q.2.1]; exact k)
theorem jx_s_irem {x y n m : Int} (hd : decode mt.2.1 pc = .ok (.irem, 1)) (q : jx_r x ∧ jx_r y ∧ y ≠ 0) (h : jx_V D l mt Po (pc + 1) ls ((0, 0, x.tmod y) :: st) u g M) : jx_V D l mt Po pc ls ((0, n, y) :: (0, m, x) :: st) u g M :=
  jx_pure h (fun q => jx_ok_cons jx_ok_i (jx_ok_tl (jx_ok_tl q))) fun _ _ _ _ _ _ _ _ _ _ _ _ _ _ _ hx hb _ k => lv_irem hx hb hd (jx_ne0 q.2.1 q.2.2) (by rw [jx_rem q.1 q.2.1]; exact k)
theorem jx_cvI (x : Int32) (n : Int) : jx_cv (0, n, x.toInt) = .int x := by
  show Value.int (Int32.ofInt x.toInt) = _
  rw [Int32.ofInt_toInt]
theorem jx_cvL (x : Int64) (n : Int) : jx_cv (1, n, x.toInt) = .long x := by
  show Value.long (Int64.ofInt x.toInt) = _
  rw [Int64.ofInt_toInt]
theorem jx_s_iand {x y n m : Int} (hd : decode mt.2.1 pc = .ok (.iand, 1)) (h : jx_V D l mt Po (pc + 1) ls ((0, 0, jx_and x y) :: st) u g M) : jx_V D l mt Po pc ls ((0, n, y) :: (0, m, x) :: st) u g M :=
  jx_pure h (fun q => jx_ok_cons jx_ok_i (jx_ok_tl (jx_ok_tl q))) fun _ _ _ _ _ _ _ _ _ _ _ _ _ _ _ hx hb _ k => lv_iand hx hb hd (by rw [List.map_cons, jx_and, jx_cvI] at k; exact k)
theorem jx_s_ishr {x y n m : Int} (hd : decode mt.2.1 pc = .ok (.ishr, 1)) (h : jx_V D l mt Po (pc + 1) ls ((0, 0, jx_shr x y) :: st) u g M) : jx_V D l mt Po pc ls ((0, n, y) :: (0, m, x) :: st) u g M :=
  jx_pure h (fun q => jx_ok_cons jx_ok_i (jx_ok_tl (jx_ok_tl q))) fun _ _ _ _ _ _ _ _ _ _ _ _ _ _ _ hx hb _ k => lv_ishr hx hb hd (by rw [List.map_cons, jx_shr, jx_cvI] at k; exact k)
theorem jx_s_iushr {x y n m : Int} (hd : decode mt.2.1 pc = .ok (.iushr, 1)) (h : jx_V D l mt Po (pc + 1) ls ((0, 0, jx_ushr x y) :: st) u g M) : jx_V D l mt Po pc ls ((0, n, y) :: (0, m, x) :: st) u g M :=
  jx_pure h (fun q => jx_ok_cons jx_ok_i (jx_ok_tl (jx_ok_tl q))) fun _ _ _ _ _ _ _ _ _ _ _ _ _ _ _ hx hb _ k => t_iushr hx hb hd rfl (by rw [List.map_cons, jx_ushr, jx_cvI] at k; exact k)
theorem jx_s_ladd {x y n m : Int} (hd : decode mt.2.1 pc = .ok (.ladd, 1)) (h : jx_V D l mt Po (pc + 1) ls ((1, 0, jx_ladd x y) :: st) u g M) : jx_V D l mt Po pc ls ((1, n, y) :: (1, m, x) :: st) u g M :=
  jx_pure h (fun q => jx_ok_cons (jx_ok_l (jx_rr _)) (jx_ok_tl (jx_ok_tl q))) fun _ _ _ _ _ _ _ _ _ _ _ _ _ _ _ hx hb _ k => lv_ladd hx hb hd (by rw [List.map_cons, jx_ladd, jx_cvL] at k; exact k)
theorem jx_s_lmul {x y n m : Int} (hd : decode mt.2.1 pc = .ok (.lmul, 1)) (h : jx_V D l mt Po (pc + 1) ls ((1, 0, jx_lmul x y) :: st) u g M) : jx_V D l mt Po pc ls ((1, n, y) :: (1, m, x) :: st) u g M :=
  jx_pure h (fun q => jx_ok_cons (jx_ok_l (jx_rr _)) (jx_ok_tl (jx_ok_tl q))) fun _ _ _ _ _ _ _ _ _ _ _ _ _ _ _ hx hb _ k => lv_lmul hx hb hd (by rw [List.map_cons, jx_lmul, jx_cvL] at k; exact k)
theorem jx_l_ne0 {y n : Int} (hy : jx_ok1 g (1, n, y)) (h : y ≠ 0) : ¬ Int64.ofInt y = 0 := by
  have e : Int64.ofInt 0 = 0 := rfl
  rw [← e, ← Int64.toInt_inj, jx_ti64 (hy.1 rfl), jx_ti64 ⟨by omega, by omega⟩]
  exact h
theorem jx_s_ldiv {x y n m : Int} (hd : decode mt.2.1 pc = .ok (.ldiv, 1)) (hy : y ≠ 0) (h : jx_V D l mt Po (pc + 1) ls ((1, 0, jx_ldiv x y) :: st) u g M) : jx_V D l mt Po pc ls ((1, n, y) :: (1, m, x) :: st) u g M :=
  jx_pure h (fun q => jx_ok_cons (jx_ok_l (jx_rr _)) (jx_ok_tl (jx_ok_tl q))) fun _ _ _ _ _ _ _ _ _ _ _ _ _ _ _ hx hb q k => lv_ldiv hx hb hd (jx_l_ne0 (q _ List.mem_cons_self) hy) (by rw [List.map_cons, jx_ldiv, jx_cvL] at k; exact k)
theorem jx_s_land {x y n m : Int} (hd : decode mt.2.1 pc = .ok (.land, 1)) (h : jx_V D l mt Po (pc + 1) ls ((1, 0, jx_land x y) :: st) u g M) : jx_V D l mt Po pc ls ((1, n, y) :: (1, m, x) :: st) u g M :=
  jx_pure h (fun q => jx_ok_cons (jx_ok_l (jx_rr _)) (jx_ok_tl (jx_ok_tl q))) fun _ _ _ _ _ _ _ _ _ _ _ _ _ _ _ hx hb _ k => lv_land hx hb hd (by rw [List.map_cons, jx_land, jx_cvL] at k; exact k)
theorem jx_s_lor {x y n m : Int} (hd : decode mt.2.1 pc = .ok (.lor, 1)) (h : jx_V D l mt Po (pc + 1) ls ((1, 0, jx_lor x y) :: st) u g M) : jx_V D l mt Po pc ls ((1, n, y) :: (1, m, x) :: st) u g M :=
  jx_pure h (fun q => jx_ok_cons (jx_ok_l (jx_rr _)) (jx_ok_tl (jx_ok_tl q))) fun _ _ _ _ _ _ _ _ _ _ _ _ _ _ _ hx hb _ k => lv_lor hx hb hd (by rw [List.map_cons, jx_lor, jx_cvL] at k; exact k)
theorem jx_s_lshl {x y n m : Int} (hd : decode mt.2.1 pc = .ok (.lshl, 1)) (h : jx_V D l mt Po (pc + 1) ls ((1, 0, jx_lshl x y) :: st) u g M) : jx_V D l mt Po pc ls ((0, n, y) :: (1, m, x) :: st) u g M :=
  jx_pure h (fun q => jx_ok_cons (jx_ok_l (jx_rr _)) (jx_ok_tl (jx_ok_tl q))) fun _ _ _ _ _ _ _ _ _ _ _ _ _ _ _ hx hb _ k => lv_lshl hx hb hd rfl (by rw [List.map_cons, jx_lshl, jx_cvL] at k; exact k)
theorem jx_s_lcmp {x y n m : Int} (hd : decode mt.2.1 pc = .ok (.lcmp, 1)) (h : jx_V D l mt Po (pc + 1) ls ((0, 0, jx_cmp x y) :: st) u g M) : jx_V D l mt Po pc ls ((1, n, y) :: (1, m, x) :: st) u g M :=
  jx_pure h (fun q => jx_ok_cons jx_ok_i (jx_ok_tl (jx_ok_tl q))) fun _ _ _ _ _ _ _ _ _ _ _ _ _ _ _ hx hb q k => W.lcmp hx hb hd (by rw [jx_cmp_ok ((q _ (List.mem_cons_of_mem _ List.mem_cons_self)).1 rfl) ((q _ List.mem_cons_self).1 rfl)]; exact k)
theorem jx_s_i2l {x n : Int} (hd : decode mt.2.1 pc = .ok (.i2l, 1)) (hr : jx_r x) (h : jx_V D l mt Po (pc + 1) ls ((1, 0, x) :: st) u g M) : jx_V D l mt Po pc ls ((0, n, x) :: st) u g M :=
  jx_pure h (fun q => jx_ok_cons (jx_ok_l ⟨by have := hr.1; omega, by have := hr.2; omega⟩) (jx_ok_tl q)) fun _ _ _ _ _ _ _ _ _ _ _ _ _ _ _ hx hb _ k => lv_i2l hx hb hd (jx_i2l hr) k
theorem jx_s_l2i {x n : Int} (hd : decode mt.2.1 pc = .ok (.l2i, 1)) (h : jx_V D l mt Po (pc + 1) ls ((0, 0, x) :: st) u g M) : jx_V D l mt Po pc ls ((1, n, x) :: st) u g M :=
  jx_pure h (fun q => jx_ok_cons jx_ok_i (jx_ok_tl q)) fun _ _ _ _ _ _ _ _ _ _ _ _ _ _ _ hx hb _ k => t_l2i hx hb hd (jx_l2i x) k
theorem jx_s_dup {v : jx_A} (hv : v.1 ≠ 1) (hd : decode mt.2.1 pc = .ok (.dup, 1)) (h : jx_V D l mt Po (pc + 1) ls (v :: v :: st) u g M) : jx_V D l mt Po pc ls (v :: st) u g M :=
  jx_pure h (fun q => jx_ok_cons (q _ List.mem_cons_self) q) fun _ _ _ _ _ _ _ _ _ _ _ _ _ _ _ hx hb _ k => lv_dup hx hb hd (jx_cat v hv) k
theorem jx_s_pop {v : jx_A} (hv : v.1 ≠ 1) (hd : decode mt.2.1 pc = .ok (.pop, 1)) (h : jx_V D l mt Po (pc + 1) ls st u g M) : jx_V D l mt Po pc ls (v :: st) u g M :=
  jx_pure h (fun q => jx_ok_tl q) fun _ _ _ _ _ _ _ _ _ _ _ _ _ _ _ hx hb _ k => lv_pop hx hb hd (jx_cat v hv) k
theorem jx_s_dup2 {v w : jx_A} (hv : v.1 ≠ 1) (hw : w.1 ≠ 1) (hd : decode mt.2.1 pc = .ok (.dup2, 1)) (h : jx_V D l mt Po (pc + 1) ls (v :: w :: v :: w :: st) u g M) : jx_V D l mt Po pc ls (v :: w :: st) u g M :=
  jx_pure h (fun q => jx_ok_cons (q _ List.mem_cons_self) (jx_ok_cons (q _ (List.mem_cons_of_mem _ List.mem_cons_self)) q)) fun _ _ _ _ _ _ _ _ _ _ _ _ _ _ _ hx hb _ k => lv_dup2_11 hx hb hd (jx_cat v hv) (jx_cat w hw) k
theorem jx_s_goto {off : Int} {tgt : Nat} (hd : decode mt.2.1 pc = .ok (.goto off, 3)) (ht : (pc : Int) + off = tgt) (h : jx_V D l mt Po tgt ls st u g M) : jx_V D l mt Po pc ls st u g M :=
  jx_pure h (fun q => q) fun _ _ _ _ _ _ _ _ _ _ _ _ _ _ _ hx hb _ k => lv_goto hx hb hd ht k
end JS
