/-! THE MACHINE BY NUMBERS, 5: loads, stores, branches, returns -/
section JU
variable {D : jx_D} {l : Launch} {mt : jx_Mt} {Po : jx_Po} {pc : Nat} {ls st : List jx_A} {u : Nat × Nat} {g : jx_S} {M : jx_M}
theorem jx_isr_spec {t : Nat} (h : jx_isr t = true) : t = 2 ∨ 7 ≤ t := by
  match t, h with
  | 2, _ => exact Or.inl rfl
  | t + 7, _ => exact Or.inr (by omega)
theorem jx_isr_cv {v : jx_A} (h : jx_isr v.1 = true) : jx_cv v = .null ∨ ∃ x, jx_cv v = .ref x := by
  obtain ⟨t, n, z⟩ := v
  have ht : 2 ≤ t := by rcases jx_isr_spec h with q | q <;> simp at q <;> omega
  match t, ht with
  | t + 2, _ =>
    show (if z < 0 then Value.null else .ref z.toNat) = .null ∨ ∃ x, (if z < 0 then Value.null else .ref z.toNat) = .ref x
    by_cases hz : z < 0
    · exact Or.inl (if_pos hz)
    · exact Or.inr ⟨_, if_neg hz⟩
theorem jx_s_load {v : jx_A} {pc' n : Nat} (hv : jx_get ls n = v) (h5 : v.1 ≠ 5) (h : jx_V D l mt Po pc' ls (v :: st) u g M)
    (hW : ∀ (p : Program) (e : Env) (R : Room) (s : State) (m : MethodId) (args : Array Value) (below : List Frame) (meth : Method) (c : Code) (H : Heap) (locs : List Loc) (k j : Nat) (Q : State → Prop) (a : Array Slot) (rest : List Value), p.tables.exec = Jvm.exec → c.code = mt.2.1 → a[n]? = some (.val (jx_cv v)) →
      W p l e R s m args below meth c H locs k j Q (F0 m pc' a (jx_cv v :: rest)) → W p l e R s m args below meth c H locs k j Q (F0 m pc a rest)) : jx_V D l mt Po pc ls st u g M := by
  intro p e s m args below meth c C H locs a hR hl hs hL hf h1 h2
  have hat := jx_get_at ls n v hv h5
  exact hW _ _ _ _ _ _ _ _ _ _ _ _ _ _ _ _ C.1 C.2.1 (hL.2.2.2 n v hat h5) (h p e s m args below meth c C H locs a hR hl (jx_ok_cons (hl v (List.mem_of_getElem? hat)) hs) hL hf h1 h2)
theorem jx_s_iload {n : Nat} {z q : Int} (hd : decode mt.2.1 pc = .ok (.iload n, 2)) (hv : jx_get ls n = (0, q, z)) (h : jx_V D l mt Po (pc + 2) ls ((0, 0, z) :: st) u g M) : jx_V D l mt Po pc ls st u g M := by
  intro p e s m args below meth c C H locs a hR hl hs hL hf h1 h2
  refine lv_iload C.1 C.2.1 hd (hL.2.2.2 n _ (jx_get_at ls n _ hv (by simp)) (by simp)) ?_
  exact h p e s m args below meth c C H locs a hR hl (jx_ok_cons jx_ok_i hs) hL hf h1 h2
theorem jx_s_iload_n {n : Fin 4} {z q : Int} (hd : decode mt.2.1 pc = .ok (.iload_n n, 1)) (hv : jx_get ls n = (0, q, z)) (h : jx_V D l mt Po (pc + 1) ls ((0, 0, z) :: st) u g M) : jx_V D l mt Po pc ls st u g M := by
  intro p e s m args below meth c C H locs a hR hl hs hL hf h1 h2
  refine lv_iload_n C.1 C.2.1 hd rfl (hL.2.2.2 n _ (jx_get_at ls n _ hv (by simp)) (by simp)) ?_
  exact h p e s m args below meth c C H locs a hR hl (jx_ok_cons jx_ok_i hs) hL hf h1 h2
theorem jx_s_lload {n : Nat} {z q : Int} (hd : decode mt.2.1 pc = .ok (.lload n, 2)) (hv : jx_get ls n = (1, q, z)) (h : jx_V D l mt Po (pc + 2) ls ((1, 0, z) :: st) u g M) : jx_V D l mt Po pc ls st u g M := by
  intro p e s m args below meth c C H locs a hR hl hs hL hf h1 h2
  have hat := jx_get_at ls n _ hv (by simp)
  refine lv_lload C.1 C.2.1 hd (hL.2.2.2 n _ hat (by simp)) ?_
  exact h p e s m args below meth c C H locs a hR hl (jx_ok_cons (jx_ok_l ((hl _ (List.mem_of_getElem? hat)).1 rfl)) hs) hL hf h1 h2
theorem jx_s_lload_n {n : Fin 4} {z q : Int} (hd : decode mt.2.1 pc = .ok (.lload_n n, 1)) (hv : jx_get ls n = (1, q, z)) (h : jx_V D l mt Po (pc + 1) ls ((1, 0, z) :: st) u g M) : jx_V D l mt Po pc ls st u g M := by
  intro p e s m args below meth c C H locs a hR hl hs hL hf h1 h2
  have hat := jx_get_at ls n _ hv (by simp)
  refine lv_lload_n C.1 C.2.1 hd rfl (hL.2.2.2 n _ hat (by simp)) ?_
  exact h p e s m args below meth c C H locs a hR hl (jx_ok_cons (jx_ok_l ((hl _ (List.mem_of_getElem? hat)).1 rfl)) hs) hL hf h1 h2
theorem jx_s_aload {n : Nat} (hd : decode mt.2.1 pc = .ok (.aload n, 2)) (hv : jx_isr (jx_get ls n).1 = true) (h : jx_V D l mt Po (pc + 2) ls (jx_get ls n :: st) u g M) : jx_V D l mt Po pc ls st u g M := by
  have h5 : (jx_get ls n).1 ≠ 5 := by rcases jx_isr_spec hv with q | q <;> omega
  refine jx_s_load rfl h5 h fun _ _ _ _ _ _ _ _ _ _ _ _ _ _ _ _ hx hb hat k => ?_
  rcases jx_isr_cv hv with q | ⟨x, q⟩
  · rw [q] at hat k
    exact lv_aloadN hx hb hd hat k
  · rw [q] at hat k
    exact lv_aload hx hb hd hat k
theorem jx_s_aload_n {n : Fin 4} (hd : decode mt.2.1 pc = .ok (.aload_n n, 1)) (hv : jx_isr (jx_get ls n).1 = true) (h : jx_V D l mt Po (pc + 1) ls (jx_get ls n :: st) u g M) : jx_V D l mt Po pc ls st u g M := by
  have h5 : (jx_get ls n).1 ≠ 5 := by rcases jx_isr_spec hv with q | q <;> omega
  refine jx_s_load rfl h5 h fun _ _ _ _ _ _ _ _ _ _ _ _ _ _ _ _ hx hb hat k => ?_
  rcases jx_isr_cv hv with q | ⟨x, q⟩
  · rw [q] at hat k
    exact lv_aload_nN hx hb hd rfl hat k
  · rw [q] at hat k
    exact lv_aload_n hx hb hd rfl hat k
section WS
variable {p : Program} {e : Env} {R : Room} {s : State} {m : MethodId} {args : Array Value} {below : List Frame} {meth : Method} {c : Code} {H : Heap} {locs : List Loc} {cells slots : Nat} {Q : State → Prop} {cc : ByteArray} {a a' : Array Slot} {rest : List Value}
theorem jx_w_istore (hexec : p.tables.exec = Jvm.exec) (hb : c.code = cc) {i : Nat} {x : Int32} (hdg : decode cc pc = .ok (.istore i, 2)) (e' : storeLocals a i (.int x) = some a') (kk : W p l e R s m args below meth c H locs cells slots Q (F0 m (pc + 2) a' rest)) : W p l e R s m args below meth c H locs cells slots Q (F0 m pc a (.int x :: rest)) := by
  intro T hT X
  obtain ⟨t, b1, b2⟩ := kk T hT X
  refine ⟨t, ?_, b2⟩
  jvm_step X.here [X.here.top, ↓top_set X.here.top, hexec, hb, hdg, e']
  exact b1
theorem jx_w_istore_n (hexec : p.tables.exec = Jvm.exec) (hb : c.code = cc) {i : Fin 4} {x : Int32} (hdg : decode cc pc = .ok (.istore_n i, 1)) (e' : storeLocals a i (.int x) = some a') (kk : W p l e R s m args below meth c H locs cells slots Q (F0 m (pc + 1) a' rest)) : W p l e R s m args below meth c H locs cells slots Q (F0 m pc a (.int x :: rest)) := by
  intro T hT X
  obtain ⟨t, b1, b2⟩ := kk T hT X
  refine ⟨t, ?_, b2⟩
  jvm_step X.here [X.here.top, ↓top_set X.here.top, hexec, hb, hdg, e']
  exact b1
theorem jx_w_lstore (hexec : p.tables.exec = Jvm.exec) (hb : c.code = cc) {i : Nat} {x : Int64} (hdg : decode cc pc = .ok (.lstore i, 2)) (e' : storeLocals a i (.long x) = some a') (kk : W p l e R s m args below meth c H locs cells slots Q (F0 m (pc + 2) a' rest)) : W p l e R s m args below meth c H locs cells slots Q (F0 m pc a (.long x :: rest)) := by
  intro T hT X
  obtain ⟨t, b1, b2⟩ := kk T hT X
  refine ⟨t, ?_, b2⟩
  jvm_step X.here [X.here.top, ↓top_set X.here.top, hexec, hb, hdg, e']
  exact b1
theorem jx_w_lstore_n (hexec : p.tables.exec = Jvm.exec) (hb : c.code = cc) {i : Fin 4} {x : Int64} (hdg : decode cc pc = .ok (.lstore_n i, 1)) (e' : storeLocals a i (.long x) = some a') (kk : W p l e R s m args below meth c H locs cells slots Q (F0 m (pc + 1) a' rest)) : W p l e R s m args below meth c H locs cells slots Q (F0 m pc a (.long x :: rest)) := by
  intro T hT X
  obtain ⟨t, b1, b2⟩ := kk T hT X
  refine ⟨t, ?_, b2⟩
  jvm_step X.here [X.here.top, ↓top_set X.here.top, hexec, hb, hdg, e']
  exact b1
theorem jx_w_astore (hexec : p.tables.exec = Jvm.exec) (hb : c.code = cc) {i : Nat} {v : Value} (hv : v = .null ∨ ∃ x, v = .ref x) (hdg : decode cc pc = .ok (.astore i, 2)) (e' : storeLocals a i v = some a') (kk : W p l e R s m args below meth c H locs cells slots Q (F0 m (pc + 2) a' rest)) : W p l e R s m args below meth c H locs cells slots Q (F0 m pc a (v :: rest)) := by
  intro T hT X
  obtain ⟨t, b1, b2⟩ := kk T hT X
  refine ⟨t, ?_, b2⟩
  rcases hv with rfl | ⟨x, rfl⟩
  · jvm_step X.here [X.here.top, ↓top_set X.here.top, hexec, hb, hdg, e', Value.isRef]
    exact b1
  · jvm_step X.here [X.here.top, ↓top_set X.here.top, hexec, hb, hdg, e', Value.isRef]
    exact b1
theorem jx_w_astore_n (hexec : p.tables.exec = Jvm.exec) (hb : c.code = cc) {i : Fin 4} {v : Value} (hv : v = .null ∨ ∃ x, v = .ref x) (hdg : decode cc pc = .ok (.astore_n i, 1)) (e' : storeLocals a i v = some a') (kk : W p l e R s m args below meth c H locs cells slots Q (F0 m (pc + 1) a' rest)) : W p l e R s m args below meth c H locs cells slots Q (F0 m pc a (v :: rest)) := by
  intro T hT X
  obtain ⟨t, b1, b2⟩ := kk T hT X
  refine ⟨t, ?_, b2⟩
  rcases hv with rfl | ⟨x, rfl⟩
  · jvm_step X.here [X.here.top, ↓top_set X.here.top, hexec, hb, hdg, e', Value.isRef]
    exact b1
  · jvm_step X.here [X.here.top, ↓top_set X.here.top, hexec, hb, hdg, e', Value.isRef]
    exact b1
theorem jx_w_iinc (hexec : p.tables.exec = Jvm.exec) (hb : c.code = cc) {i : Nat} {n : Int} {x : Int32} (hdg : decode cc pc = .ok (.iinc i n, 3)) (hg : a[i]? = some (.val (.int x))) (e' : storeLocals a i (.int (x + Int32.ofInt n)) = some a') (kk : W p l e R s m args below meth c H locs cells slots Q (F0 m (pc + 3) a' rest)) : W p l e R s m args below meth c H locs cells slots Q (F0 m pc a rest) := by
  intro T hT X
  obtain ⟨t, b1, b2⟩ := kk T hT X
  refine ⟨t, ?_, b2⟩
  jvm_step X.here [X.here.top, ↓top_set X.here.top, hexec, hb, hdg, hg, e']
  exact b1
end WS
theorem jx_s_istore {n : Nat} {z q : Int} (hd : decode mt.2.1 pc = .ok (.istore n, 2)) (hi : jx_ix n ls = true) (h : jx_V D l mt Po (pc + 2) (jx_set ls n (0, 0, z)) st u g M) : jx_V D l mt Po pc ls ((0, q, z) :: st) u g M := by
  intro p e s m args below meth c C H locs a hR hl hs hL hf h1 h2
  obtain ⟨a', e1, e2⟩ := jx_store1 (v := (0, 0, z)) hL (jx_ix_lt _ _ hi) (by simp)
  exact jx_w_istore C.1 C.2.1 hd e1 (h p e s m args below meth c C H locs a' hR (jx_ok_set hl jx_ok_i) (jx_ok_tl hs) e2 hf h1 h2)
theorem jx_s_istore_n {n : Fin 4} {z q : Int} (hd : decode mt.2.1 pc = .ok (.istore_n n, 1)) (hi : jx_ix n ls = true) (h : jx_V D l mt Po (pc + 1) (jx_set ls n (0, 0, z)) st u g M) : jx_V D l mt Po pc ls ((0, q, z) :: st) u g M := by
  intro p e s m args below meth c C H locs a hR hl hs hL hf h1 h2
  obtain ⟨a', e1, e2⟩ := jx_store1 (v := (0, 0, z)) hL (jx_ix_lt _ _ hi) (by simp)
  exact jx_w_istore_n C.1 C.2.1 hd e1 (h p e s m args below meth c C H locs a' hR (jx_ok_set hl jx_ok_i) (jx_ok_tl hs) e2 hf h1 h2)
theorem jx_s_lstore {n : Nat} {z q : Int} (hd : decode mt.2.1 pc = .ok (.lstore n, 2)) (hi : jx_ix (n + 1) ls = true) (h : jx_V D l mt Po (pc + 2) (jx_set2 ls n (1, 0, z)) st u g M) : jx_V D l mt Po pc ls ((1, q, z) :: st) u g M := by
  intro p e s m args below meth c C H locs a hR hl hs hL hf h1 h2
  obtain ⟨a', e1, e2⟩ := jx_store2 (m := 0) (z := z) hL (jx_ix_lt _ _ hi)
  exact jx_w_lstore C.1 C.2.1 hd e1 (h p e s m args below meth c C H locs a' hR (jx_ok_set2 (jx_ix_lt _ _ hi) hl (jx_ok_l ((hs _ List.mem_cons_self).1 rfl))) (jx_ok_tl hs) e2 hf h1 h2)
theorem jx_s_lstore_n {n : Fin 4} {z q : Int} (hd : decode mt.2.1 pc = .ok (.lstore_n n, 1)) (hi : jx_ix (n + 1) ls = true) (h : jx_V D l mt Po (pc + 1) (jx_set2 ls n (1, 0, z)) st u g M) : jx_V D l mt Po pc ls ((1, q, z) :: st) u g M := by
  intro p e s m args below meth c C H locs a hR hl hs hL hf h1 h2
  obtain ⟨a', e1, e2⟩ := jx_store2 (m := 0) (z := z) hL (jx_ix_lt _ _ hi)
  exact jx_w_lstore_n C.1 C.2.1 hd e1 (h p e s m args below meth c C H locs a' hR (jx_ok_set2 (jx_ix_lt _ _ hi) hl (jx_ok_l ((hs _ List.mem_cons_self).1 rfl))) (jx_ok_tl hs) e2 hf h1 h2)
theorem jx_isr_1 {v : jx_A} (h : jx_isr v.1 = true) : v.1 ≠ 1 := by rcases jx_isr_spec h with q | q <;> omega
theorem jx_s_astore {n : Nat} {v : jx_A} (hd : decode mt.2.1 pc = .ok (.astore n, 2)) (hi : jx_ix n ls = true) (hv : jx_isr v.1 = true) (h : jx_V D l mt Po (pc + 2) (jx_set ls n v) st u g M) : jx_V D l mt Po pc ls (v :: st) u g M := by
  intro p e s m args below meth c C H locs a hR hl hs hL hf h1 h2
  obtain ⟨a', e1, e2⟩ := jx_store1 (v := v) hL (jx_ix_lt _ _ hi) (jx_isr_1 hv)
  exact jx_w_astore C.1 C.2.1 (jx_isr_cv hv) hd e1 (h p e s m args below meth c C H locs a' hR (jx_ok_set hl (hs _ List.mem_cons_self)) (jx_ok_tl hs) e2 hf h1 h2)
theorem jx_s_astore_n {n : Fin 4} {v : jx_A} (hd : decode mt.2.1 pc = .ok (.astore_n n, 1)) (hi : jx_ix n ls = true) (hv : jx_isr v.1 = true) (h : jx_V D l mt Po (pc + 1) (jx_set ls n v) st u g M) : jx_V D l mt Po pc ls (v :: st) u g M := by
  intro p e s m args below meth c C H locs a hR hl hs hL hf h1 h2
  obtain ⟨a', e1, e2⟩ := jx_store1 (v := v) hL (jx_ix_lt _ _ hi) (jx_isr_1 hv)
  exact jx_w_astore_n C.1 C.2.1 (jx_isr_cv hv) hd e1 (h p e s m args below meth c C H locs a' hR (jx_ok_set hl (hs _ List.mem_cons_self)) (jx_ok_tl hs) e2 hf h1 h2)
theorem jx_s_iinc {n : Nat} {z q k : Int} (hd : decode mt.2.1 pc = .ok (.iinc n k, 3)) (hv : jx_get ls n = (0, q, z)) (h : jx_V D l mt Po (pc + 3) (jx_set ls n (0, 0, z + k)) st u g M) : jx_V D l mt Po pc ls st u g M := by
  intro p e s m args below meth c C H locs a hR hl hs hL hf h1 h2
  have hat := jx_get_at ls n _ hv (by simp)
  obtain ⟨a', e1, e2⟩ := jx_store1 (i := n) (v := (0, 0, z + k)) hL (List.getElem?_eq_some_iff.mp hat).1 (by simp)
  refine jx_w_iinc C.1 C.2.1 hd (hL.2.2.2 n _ hat (by simp)) ?_ (h p e s m args below meth c C H locs a' hR (jx_ok_set hl jx_ok_i) hs e2 hf h1 h2)
  rw [← Int32.ofInt_add]
  exact e1
theorem jx_s_icmp {cd : ClassFile.Cond} {off x y n m : Int} {tgt : Nat} (hd : decode mt.2.1 pc = .ok (.if_icmp cd off, 3)) (ht : (pc : Int) + off = tgt) (hx : jx_r x) (hy : jx_r y)
    (k1 : jx_rel cd x y → jx_V D l mt Po tgt ls st u g M) (k2 : ¬ jx_rel cd x y → jx_V D l mt Po (pc + 3) ls st u g M) : jx_V D l mt Po pc ls ((0, n, y) :: (0, m, x) :: st) u g M := by
  intro p e s m args below meth c C H locs a hR hl hs hL hf h1 h2
  have k1 := fun q => k1 q p e s m args below meth c C H locs a hR hl (jx_ok_tl (jx_ok_tl hs)) hL hf h1 h2
  have k2 := fun q => k2 q p e s m args below meth c C H locs a hR hl (jx_ok_tl (jx_ok_tl hs)) hL hf h1 h2
  cases cd with
  | eq => exact lv_icmp_eq C.1 C.2.1 hd ht (fun q => k1 ((jx_eq hx hy).mp q)) (fun q => k2 fun z => q ((jx_eq hx hy).mpr z))
  | ne => exact lv_icmp_ne C.1 C.2.1 hd ht (fun q => k1 fun z => q ((jx_eq hx hy).mpr z)) (fun q => k2 fun z => z ((jx_eq hx hy).mp q))
  | lt => exact lv_icmp_lt C.1 C.2.1 hd ht (fun q => k1 ((jx_lt hx hy).mp q)) (fun q => k2 fun z => q ((jx_lt hx hy).mpr z))
  | ge => exact lv_icmp_ge C.1 C.2.1 hd ht (fun q => k1 ((jx_le hy hx).mp q)) (fun q => k2 fun z => q ((jx_le hy hx).mpr z))
  | gt => exact lv_icmp_gt C.1 C.2.1 hd ht (fun q => k1 ((jx_lt hy hx).mp q)) (fun q => k2 fun z => q ((jx_lt hy hx).mpr z))
  | le => exact lv_icmp_le C.1 C.2.1 hd ht (fun q => k1 ((jx_le hx hy).mp q)) (fun q => k2 fun z => q ((jx_le hx hy).mpr z))
theorem jx_s_if {cd : ClassFile.Cond} {off x m : Int} {tgt : Nat} (hd : decode mt.2.1 pc = .ok (.ifCond cd off, 3)) (ht : (pc : Int) + off = tgt) (hx : jx_r x)
    (k1 : jx_rel cd x 0 → jx_V D l mt Po tgt ls st u g M) (k2 : ¬ jx_rel cd x 0 → jx_V D l mt Po (pc + 3) ls st u g M) : jx_V D l mt Po pc ls ((0, m, x) :: st) u g M := by
  intro p e s m args below meth c C H locs a hR hl hs hL hf h1 h2
  have k1 := fun q => k1 q p e s m args below meth c C H locs a hR hl (jx_ok_tl hs) hL hf h1 h2
  have k2 := fun q => k2 q p e s m args below meth c C H locs a hR hl (jx_ok_tl hs) hL hf h1 h2
  have hy : jx_r 0 := ⟨by omega, by omega⟩
  cases cd with
  | eq => exact lv_if_eq C.1 C.2.1 hd ht (fun q => k1 ((jx_eq hx hy).mp q)) (fun q => k2 fun z => q ((jx_eq hx hy).mpr z))
  | ne => exact lv_if_ne C.1 C.2.1 hd ht (fun q => k1 fun z => q ((jx_eq hx hy).mpr z)) (fun q => k2 fun z => z ((jx_eq hx hy).mp q))
  | lt => exact lv_if_lt C.1 C.2.1 hd ht (fun q => k1 ((jx_lt hx hy).mp q)) (fun q => k2 fun z => q ((jx_lt hx hy).mpr z))
  | ge => exact lv_if_ge C.1 C.2.1 hd ht (fun q => k1 ((jx_le hy hx).mp q)) (fun q => k2 fun z => q ((jx_le hy hx).mpr z))
  | gt => exact lv_if_gt C.1 C.2.1 hd ht (fun q => k1 ((jx_lt hy hx).mp q)) (fun q => k2 fun z => q ((jx_lt hy hx).mpr z))
  | le => exact lv_if_le C.1 C.2.1 hd ht (fun q => k1 ((jx_le hx hy).mp q)) (fun q => k2 fun z => q ((jx_le hx hy).mpr z))
theorem jx_s_ifnull {v : jx_A} {off : Int} {tgt : Nat} (hd : decode mt.2.1 pc = .ok (.ifnull off, 3)) (ht : (pc : Int) + off = tgt) (hv : jx_isr v.1 = true)
    (k1 : v.2.2 < 0 → jx_V D l mt Po tgt ls st u g M) (k2 : ¬ v.2.2 < 0 → jx_V D l mt Po (pc + 3) ls st u g M) : jx_V D l mt Po pc ls (v :: st) u g M := by
  intro p e s m args below meth c C H locs a hR hl hs hL hf h1 h2
  have k1 := fun q => k1 q p e s m args below meth c C H locs a hR hl (jx_ok_tl hs) hL hf h1 h2
  have k2 := fun q => k2 q p e s m args below meth c C H locs a hR hl (jx_ok_tl hs) hL hf h1 h2
  obtain ⟨t, n, z⟩ := v
  have ht2 : 2 ≤ t := by rcases jx_isr_spec hv with q | q <;> simp at q <;> omega
  have e0 : jx_cv (t, n, z) = if z < 0 then Value.null else .ref z.toNat := by
    match t, ht2 with
    | t + 2, _ => rfl
  rw [List.map_cons, e0]
  by_cases hz : z < 0
  · rw [if_pos hz]
    exact lv_ifnullN C.1 C.2.1 hd ht (k1 hz)
  · rw [if_neg hz]
    exact lv_ifnull C.1 C.2.1 hd (k2 hz)
/-- ends -/
theorem jx_end {p : Program} {e : Env} {s : State} {m : MethodId} {args : Array Value} {below : List Frame} {meth : Method} {c : Code} {H : Heap} {locs : List Loc} {R : Room} {kc ks : Nat} {fr : JFrame} {v : jx_A} (hu1 : u.1 ≤ kc) (hu2 : u.2 ≤ ks) (hP : Po v g M) (hR : jx_R D g M H) (hv : jx_ok1 g v) (h4 : v.1 ≠ 4)
    (hf : ∀ q ∈ locs, D.2.2.size ≤ q.base)
    (hW : ∀ Qc : Array Value → State → Outcome → State → Prop, (∀ t : State, t.heap = H → s.WarmedH t.vm → Qc args s (jx_oc v) t) → W p l e R s m args below meth c H locs kc ks (MQ below Qc args s kc ks (fun q => D.2.2.size ≤ q)) fr) :
    W p l e R s m args below meth c H locs u.1 u.2 (jx_Q D (jx_sq g Po) kc ks below s) fr := by
  refine W.widen hu1 hu2 ?_
  intro T hT X
  obtain ⟨t, a, o, b1, b2, b3, L, b4, b5⟩ := hW (fun _ s o t => o = jx_oc v ∧ t.heap = H ∧ s.WarmedH t.vm) (fun t h1 h2 => ⟨rfl, h1, h2⟩) T hT X
  refine ⟨t, a, o, b1, b2, ⟨v, g, M, b3.1, ⟨fun _ _ _ => rfl, hP⟩, by rw [b3.2.1]; exact hR, hv, fun q => absurd q h4⟩, b3.2.2, L, b4.2.2, b5⟩
theorem jx_s_ireturn {z n : Int} (hd : decode mt.2.1 pc = .ok (.ireturn, 1)) (hr : mt.2.2.2.1 = 0) (h : Po (0, 0, z) g M) : jx_V D l mt Po pc ls [(0, n, z)] u g M := by
  intro p e s m args below meth c C H locs a hR hl hs hL hf h1 h2
  obtain ⟨hx, hb, -, hrt, hlk, -⟩ := C
  rw [hr] at hrt
  exact jx_end h1 h2 h hR jx_ok_i (by simp) hf fun Qc hq => W.iret hx hb hrt (fun t e1 e2 => hq t e1 e2) hf hd hlk
theorem jx_s_zreturn {z n : Int} (hd : decode mt.2.1 pc = .ok (.ireturn, 1)) (hr : mt.2.2.2.1 = 4) (hz : z = 0 ∨ z = 1) (h : Po (0, 0, z) g M) : jx_V D l mt Po pc ls [(0, n, z)] u g M := by
  intro p e s m args below meth c C H locs a hR hl hs hL hf h1 h2
  obtain ⟨hx, hb, -, hrt, hlk, -⟩ := C
  rw [hr] at hrt
  exact jx_end h1 h2 h hR jx_ok_i (by simp) hf fun Qc hq => W.zret hx hb hrt (by rcases hz with rfl | rfl <;> rfl) (fun t e1 e2 => hq t e1 e2) hf hd hlk
theorem jx_s_lreturn {z n : Int} (hd : decode mt.2.1 pc = .ok (.lreturn, 1)) (hr : mt.2.2.2.1 = 1) (h : Po (1, 0, z) g M) : jx_V D l mt Po pc ls [(1, n, z)] u g M := by
  intro p e s m args below meth c C H locs a hR hl hs hL hf h1 h2
  obtain ⟨hx, hb, -, hrt, hlk, -⟩ := C
  rw [hr] at hrt
  exact jx_end h1 h2 h hR (jx_ok_l ((hs _ List.mem_cons_self).1 rfl)) (by simp) hf fun Qc hq => W.lret hx hb hrt (fun t e1 e2 => hq t e1 e2) hf hd hlk
theorem jx_s_areturn {v : jx_A} (hd : decode mt.2.1 pc = .ok (.areturn, 1)) (hr : mt.2.2.2.1 = 2) (hv : jx_isr v.1 = true) (h : Po v g M) : jx_V D l mt Po pc ls [v] u g M := by
  intro p e s m args below meth c C H locs a hR hl hs hL hf h1 h2
  obtain ⟨hx, hb, -, hrt, hlk, -⟩ := C
  rw [hr] at hrt
  obtain ⟨t, e1, e2⟩ := hrt
  have hoc : jx_oc v = .returned (some (jx_cv v)) := by
    obtain ⟨t, n, z⟩ := v
    rcases jx_isr_spec hv with q | q
    · simp at q
      subst q
      rfl
    · match t, q with
      | t + 7, _ => rfl
  exact jx_end h1 h2 h hR (hs _ List.mem_cons_self) (by rcases jx_isr_spec hv with q | q <;> omega) hf fun Qc hq => W.aret hx hb e1 e2 (jx_isr_cv hv) (fun t e1 e2 => by rw [← hoc]; exact hq t e1 e2) hf hd hlk
theorem jx_s_return (hd : decode mt.2.1 pc = .ok (.return_, 1)) (hr : mt.2.2.2.1 = 3) (h : Po (3, 0, 0) g M) : jx_V D l mt Po pc ls [] u g M := by
  intro p e s m args below meth c C H locs a hR hl hs hL hf h1 h2
  obtain ⟨hx, hb, -, hrt, hlk, -⟩ := C
  rw [hr] at hrt
  exact jx_end h1 h2 h hR ⟨fun h => (by simp at h), fun h => (by simp at h), fun h => (by simp at h)⟩ (by simp) hf fun Qc hq => W.vret hx hb hrt (fun t e1 e2 => hq t e1 e2) hf hd hlk
end JU
