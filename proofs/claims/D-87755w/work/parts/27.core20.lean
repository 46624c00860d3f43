/-! THE MACHINE BY NUMBERS, 20: what the VM throws, in a walk -/
set_option maxRecDepth 100000
theorem jx_htr {l : Launch} {e : Env} (hfl : l.flags = flags0) (h : l.admits e) : e.platform.stackTraces = false := by
  rw [h.platform]
  show l.stackTraces = false
  unfold Launch.stackTraces
  rw [hfl]
  decide +kernel
/-- the heap grows by cells that nobody looks at -/
theorem jx_R_grow {D : jx_D} {g : jx_S} {M : jx_M} {H H' : Heap} (h : jx_R D g M H) (n : Nat) (hs : H'.size = H.size + n) (hq : ∀ q, q < H.size → H'[q]? = H[q]?) : jx_R D (g.1 + n, g.2) M H' := by
  obtain ⟨a1, a2, a3, a4⟩ := h
  refine ⟨by rw [hs, a1], by omega, fun q hq' => by rw [hq q (by omega)]; exact a3 q hq', fun z hz => ?_⟩
  obtain ⟨b1, b2, b3, cell, c1, c2⟩ := a4 z hz
  have hz' : z.toNat < H.size := (Array.getElem?_eq_some_iff.mp c1).1
  exact ⟨b1, b2, b3, cell, by rw [hq _ hz']; exact c1, c2⟩
theorem jx_sub_grow {g : jx_S} {n : Nat} : jx_sub g (n, g.2) := fun _ _ _ => rfl
/-- the word for a static field, out of the first heap -/
theorem jx_LS_word {D : jx_D} {C n d : String} {s : State} {args : Array Value} (hH : ∀ q : Nat, q < D.2.2.size → s.heap[q]? = D.2.2[q]?) (h : jx_LS C n d s D.2.2) : (Cond.laysStatic C n d).before args s = true := by
  obtain ⟨c, k, i, f, a, cell, h1, h2, h3, h4, h5, h6, h7, h8, h9⟩ := h
  have h5' : s.heap[a]? = some cell := by rw [hH _ (Array.getElem?_eq_some_iff.mp h5).1]; exact h5
  simp [Cond.before, Cond.holds, Cond.value, h1, h2, h3, h4, h5', h6, h7, h8, h9]
def jx_w2 (w : Cond) : Prop := w = .laysStatic "java/lang/Throwable" "UNASSIGNED_STACK" "[Ljava/lang/StackTraceElement;" ∨ w = .laysStatic "java/lang/Throwable" "SUPPRESSED_SENTINEL" "Ljava/util/List;"
/-- the words of all that the VM throws here -/
theorem jx_words {D : jx_D} {s : State} {args : Array Value} {L : List Cond} (hts : ∀ w ∈ lw_all, w.before args s = true) (hE : jx_En D s) (hH : ∀ q : Nat, q < D.2.2.size → s.heap[q]? = D.2.2[q]?) (h : ∀ w ∈ L, w ∈ lw_all ∨ w ∈ jx_nl ∨ w = .laysStatic "java/lang/Throwable" "UNASSIGNED_STACK" "[Ljava/lang/StackTraceElement;" ∨ w = .laysStatic "java/lang/Throwable" "SUPPRESSED_SENTINEL" "Ljava/util/List;") : ∀ w ∈ L, w.before args s = true := by
  intro w hw
  rcases h w hw with q | q | rfl | rfl
  · exact hts w q
  · have hn := (List.mem_filter.mp q).2
    have hb := hE.2.2.1 w q
    unfold jx_nw at hn
    split at hn
    · exact va_Nw.use rfl hb
    · exact va_Nw.use rfl hb
    · exact va_Nw.use rfl hb
    · exact va_Nw.use rfl hb
    · exact va_AO.use (va_AO.of hb)
    · cases hn
  · exact jx_LS_word hH hE.2.2.2.2.2.2.2.1
  · exact jx_LS_word hH hE.2.2.2.2.2.2.2.2
section XT
variable {D : jx_D} {l : Launch} {mt : jx_Mt} {Po : jx_Po} {pc : Nat} {ls st : List jx_A} {u : Nat × Nat} {g : jx_S} {M : jx_M} {hf : Nat → Int → Option Nat}
/-- how one instruction comes to throw an exception with a message -/
def jx_Thm (D : jx_D) (l : Launch) (mt : jx_Mt) (pc : Nat) (ls st st' : List jx_A) (g : jx_S) (M : jx_M) (x : Int) : Prop :=
  ∀ (p : Program) (e : Env) (R : Room) (s : State) (m : MethodId) (args : Array Value) (below : List Frame) (meth : Method) (c : Code) (T : State) (locs : List Loc) (cells slots : Nat) (a : Array Slot), jx_C D l mt p s m args meth c → Stand p l e R s m args below meth c T locs cells slots →
    jx_R D g M T.heap → jx_ok g ls → jx_ok g st → ∃ (vm' : Vm) (text : String), Stand p l e R s m args below meth c (T.setVm vm') locs cells slots ∧ (text == notModelled) = false ∧ (stringBytes (stringToUtf16 text)).size ≤ 1990 ∧
      ∀ target, Steps p.tables e below (((T.setVm vm').setTop (F0 m pc a (st'.map jx_cv))).pushFrame (.throwNew (jx_xn x) (some text) none)) target → Steps p.tables e below (T.setTop (F0 m pc a (st.map jx_cv))) target
def jx_nms (x : Int) : List String := if x = 3 then ["java/lang/IndexOutOfBoundsException", "java/lang/RuntimeException", "java/lang/Exception"] else ["java/lang/RuntimeException", "java/lang/Exception"]
theorem jx_mw2 : ∀ w ∈ jx_mw (jx_xn 2) (jx_nms 2), w ∈ lw_all ∨ w ∈ jx_nl ∨ w = .laysStatic "java/lang/Throwable" "UNASSIGNED_STACK" "[Ljava/lang/StackTraceElement;" ∨ w = .laysStatic "java/lang/Throwable" "SUPPRESSED_SENTINEL" "Ljava/util/List;" := by decide +kernel
theorem jx_mw3 : ∀ w ∈ jx_mw (jx_xn 3) (jx_nms 3), w ∈ lw_all ∨ w ∈ jx_nl ∨ w = .laysStatic "java/lang/Throwable" "UNASSIGNED_STACK" "[Ljava/lang/StackTraceElement;" ∨ w = .laysStatic "java/lang/Throwable" "SUPPRESSED_SENTINEL" "Ljava/util/List;" := by decide +kernel
theorem jx_mw4 : ∀ w ∈ jx_mw (jx_xn 4) (jx_nms 4), w ∈ lw_all ∨ w ∈ jx_nl ∨ w = .laysStatic "java/lang/Throwable" "UNASSIGNED_STACK" "[Ljava/lang/StackTraceElement;" ∨ w = .laysStatic "java/lang/Throwable" "SUPPRESSED_SENTINEL" "Ljava/util/List;" := by decide +kernel
theorem jx_mw5 : ∀ w ∈ jx_mw (jx_xn 5) (jx_nms 5), w ∈ lw_all ∨ w ∈ jx_nl ∨ w = .laysStatic "java/lang/Throwable" "UNASSIGNED_STACK" "[Ljava/lang/StackTraceElement;" ∨ w = .laysStatic "java/lang/Throwable" "SUPPRESSED_SENTINEL" "Ljava/util/List;" := by decide +kernel
theorem jx_pw1 : ∀ w ∈ jx_pw, w ∈ lw_all ∨ w ∈ jx_nl ∨ w = .laysStatic "java/lang/Throwable" "UNASSIGNED_STACK" "[Ljava/lang/StackTraceElement;" ∨ w = .laysStatic "java/lang/Throwable" "SUPPRESSED_SENTINEL" "Ljava/util/List;" := by decide +kernel
def jx_xg (x : Int) : Prop := (∀ w ∈ jx_mw (jx_xn x) (jx_nms x), w ∈ lw_all ∨ w ∈ jx_nl ∨ w = .laysStatic "java/lang/Throwable" "UNASSIGNED_STACK" "[Ljava/lang/StackTraceElement;" ∨ w = .laysStatic "java/lang/Throwable" "SUPPRESSED_SENTINEL" "Ljava/util/List;") ∧ Bundle.fit (jx_xn x) = true ∧ (∀ n ∈ jx_nms x, Bundle.fit n = true) ∧ ((jx_xn x) == "java/lang/StackOverflowError") = false ∧ ((jx_xn x) == "java/lang/OutOfMemoryError") = false ∧ (jx_nms x).length ≤ 3 ∧ x ≠ 6
theorem jx_xg2 : jx_xg 2 := ⟨jx_mw2, by decide +kernel, by decide +kernel, by decide +kernel, by decide +kernel, by decide +kernel, by decide⟩
theorem jx_xg3 : jx_xg 3 := ⟨jx_mw3, by decide +kernel, by decide +kernel, by decide +kernel, by decide +kernel, by decide +kernel, by decide⟩
theorem jx_xg4 : jx_xg 4 := ⟨jx_mw4, by decide +kernel, by decide +kernel, by decide +kernel, by decide +kernel, by decide +kernel, by decide⟩
theorem jx_xg5 : jx_xg 5 := ⟨jx_mw5, by decide +kernel, by decide +kernel, by decide +kernel, by decide +kernel, by decide +kernel, by decide⟩
/-- where it goes on -/
def jx_Aft (D : jx_D) (l : Launch) (mt : jx_Mt) (hf : Nat → Int → Option Nat) (Po : jx_Po) (pc : Nat) (ls : List jx_A) (u : Nat × Nat) (g : jx_S) (M : jx_M) (x z : Int) : Prop := match hf pc x with
  | some h => jx_V D l mt Po h ls [jx_ex x z] u g M
  | none => Po (4, x, z) g M
/-- from the note that something is thrown in this frame -/
theorem jx_noted {p : Program} {e : Env} {s : State} {m : MethodId} {args : Array Value} {below : List Frame} {meth : Method} {c : Code} {T T2 : State} {locs : List Loc} {a : Array Slot} {stk : List Value} {u' : Nat × Nat} {g' : jx_S} {x z : Int} {fr : JFrame} (hH : jx_HK D l mt hf) (C : jx_C D l mt p s m args meth c)
    (X : Stand p l e (jx_rm mt.2.2.2.2.2.1 mt.2.2.2.2.2.2.1 mt.2.2.2.2.2.2.2.1) s m args below meth c T2 locs u'.1 u'.2) (hsub : jx_sub g g') (hR : jx_R D g' M T2.heap) (hl : jx_ok g ls) (hL : jx_Ls a mt.2.2.1 ls) (hlocs : ∀ q ∈ locs, D.2.2.size ≤ q.base) (hu1 : u'.1 ≤ mt.2.2.2.2.2.2.1) (hu2 : u'.2 ≤ mt.2.2.2.2.2.2.2.1)
    (hxo : jx_xo g' s T2.heap (4, x, z)) (hK : jx_Aft D l mt hf Po pc ls u' g' M x z) (hgo : ∀ target, Steps p.tables e below ((T2.setTop (F0 m pc a stk)).pushFrame (.throwing z.toNat)) target → Steps p.tables e below (T.setTop fr) target) :
    ∃ t, Steps p.tables e below (T.setTop fr) t ∧ jx_Q D (jx_sq g Po) mt.2.2.2.2.2.2.1 mt.2.2.2.2.2.2.2.1 below s t := by
  obtain ⟨vm2, X2, hfd⟩ := hH pc x z g' p e s m args below meth c _ T2 _ _ _ a stk C X hxo
  obtain ⟨x1, x2, cell, x3, x4, x5⟩ := hxo rfl
  unfold jx_Aft at hK
  cases hh : hf pc x with
  | some h =>
    rw [hh] at hK hfd
    have hok1 : jx_ok1 g' (jx_ex x z) := by
      unfold jx_ex
      split
      · rename_i q
        have hg : g'.2 z = (64, 0) := x2 q
        refine ⟨fun w => (by simp at w), fun _ => ?_, fun _ => (by constructor <;> simp)⟩
        show jx_in 64 (g'.2 z).1 ∧ (g'.2 z).2 = 0
        rw [hg]
        exact ⟨rfl, rfl⟩
      · exact jx_ok_n
    obtain ⟨t, q1, q2⟩ := hK p e s m args below meth c C T2.heap locs a hR (jx_ok_sub hsub hl) (jx_ok_cons hok1 (fun v hv => by simp at hv)) hL hlocs hu1 hu2 (T2.setVm vm2) rfl X2
    have ecv : jx_cv (jx_ex x z) = .ref z.toNat := by
      unfold jx_ex
      split <;> exact jx_cv_ref (by omega) x1
    refine ⟨t, hgo t (hfd _ ?_), jx_Q_mono hsub q2⟩
    rw [List.map_cons, ecv] at q1
    exact q1
  | none =>
    rw [hh] at hK hfd
    obtain ⟨g₀, hfr⟩ := X2.frames_eq
    refine ⟨(T2.setVm vm2).setFrames (.throwing z.toNat :: below), hgo _ hfd, .threw z.toNat, X2.here.running, State.frames_setFrames _ (State.cur_lt_of_frames hfr), ⟨(4, x, z), g', M, rfl, ⟨hsub, hK⟩, hR, ⟨fun w => (by simp at w), fun w => (by simp at w), fun w => (by simp at w)⟩, hxo⟩, (X2.ends _).1, locs, ?_, hlocs⟩
    exact (X2.ends _).2.mono hu1 hu2
theorem jx_s_msg {x : Int} {st' : List jx_A} (hH : jx_HK D l mt hf) (hx : jx_xg x) (hT : jx_Thm D l mt pc ls st st' g M x) (hlen : st'.length ≤ 12) (hu : u.1 + 3 ≤ mt.2.2.2.2.2.2.1 ∧ u.2 + 2000 ≤ mt.2.2.2.2.2.2.2.1)
    (hK : jx_Aft D l mt hf Po pc ls (u.1 + 3, u.2 + 2000) (g.1 + 3, g.2) M x ((g.1 : Int) + 2)) : jx_V D l mt Po pc ls st u g M := by
  obtain ⟨w1, w2, w3, w4, w5, w6, w7⟩ := hx
  intro p e s m args below meth c C H locs a hR hl hs hL hf' h1 h2 T hTH X
  subst hTH
  obtain ⟨vm', text, X', t1, t2, t3⟩ := hT p e _ s m args below meth c T locs u.1 u.2 a C X hR hl hs
  have hE := C.2.2.2.2.2.2.2.1
  have hsum := jx_cat_sum st'
  obtain ⟨T2, L, n, cell, X2, hn, hLb, hsz, hq, hcell, hst, hcls, hgo⟩ := jx_note_msg (D := D) (X := jx_xn x) (names := jx_nms x) (text := text) (g := F0 m pc a (st'.map jx_cv)) (k := 1990) X' C.1 (jx_htr C.2.2.2.2.2.2.2.2.1 X.admits) w2 w3 w4 w5 (jx_words C.2.2.2.2.2.2.1 hE C.2.2.2.2.2.2.2.2.2.2.2.2 w1) hE.2.2.2.2.1 hE.2.2.2.2.2.1 hR.2.2.1 t1 t2
    (by rw [Launch.admits_arrayLengthLimit X.admits]; decide) (by rw [Launch.admits_maxHeapBytes X.admits]; decide +kernel) rfl (by rw [C.2.2.1]; exact hL.1) (by show _ < 8 + _; omega) (by show 2 * 0 + _ + 10240 ≤ 20000 + 100 * _; show 2 * 0 + ((st'.map jx_cv).map fun v => v.category).sum + 10240 ≤ 20000 + 100 * _; omega) (by omega) hu.1 hu.2
  have hg1 : T.heap.size = g.1 := hR.1
  have hLb : ∀ q ∈ L, q.base = T.heap.size + 2 := hLb
  have hlocs : ∀ q ∈ locs ++ L, D.2.2.size ≤ q.base := fun q hq' => by
    rcases List.mem_append.mp hq' with z | z
    · exact hf' q z
    · have := hR.2.1
      rw [hLb q z]
      omega
  have ez : ((g.1 : Int) + 2).toNat = T.heap.size + 2 := by omega
  have hX2 : Stand p l e (jx_rm mt.2.2.2.2.2.1 mt.2.2.2.2.2.2.1 mt.2.2.2.2.2.2.2.1) s m args below meth c T2 (locs ++ L) (u.1 + 3) (u.2 + 2000) := ⟨X2.admits, X2.cas, X2.clock, X2.frames, X2.room, X2.hears, X2.method, X2.code, X2.here, X2.tail, X2.warmed, X2.limits, X2.bytes, X2.same.weaken (fun _ h _ => h) (Nat.le_refl _) (by omega)⟩
  refine jx_noted (u' := (u.1 + 3, u.2 + 2000)) (g' := (g.1 + 3, g.2)) (T2 := T2) (stk := st'.map jx_cv) hH C hX2 jx_sub_grow (jx_R_grow hR 3 hsz hq) hl hL hlocs hu.1 hu.2 ?_ hK ?_
  · intro _
    refine ⟨by show (0 : Int) ≤ (g.1 : Int) + 2; omega, fun q => absurd q w7, cell, ?_, hst, hcls⟩
    show T2.heap[((g.1 : Int) + 2).toNat]? = _
    rw [ez]
    exact hcell
  · rw [ez]
    exact fun target h => t3 target (hgo target h)
/-- how one instruction comes to throw a NullPointerException -/
def jx_Thn (D : jx_D) (l : Launch) (mt : jx_Mt) (pc : Nat) (ls st st' : List jx_A) (g : jx_S) (M : jx_M) : Prop :=
  ∀ (p : Program) (e : Env) (R : Room) (s : State) (m : MethodId) (args : Array Value) (below : List Frame) (meth : Method) (c : Code) (T : State) (locs : List Loc) (cells slots : Nat) (a : Array Slot), jx_C D l mt p s m args meth c → Stand p l e R s m args below meth c T locs cells slots →
    jx_R D g M T.heap → jx_ok g ls → jx_ok g st →
      ∀ target, Steps p.tables e below ((T.setTop (F0 m pc a (st'.map jx_cv))).pushFrame (.throwNew "java/lang/NullPointerException" none none)) target → Steps p.tables e below (T.setTop (F0 m pc a (st.map jx_cv))) target
theorem jx_s_npe {st' : List jx_A} (hH : jx_HK D l mt hf) (hT : jx_Thn D l mt pc ls st st' g M) (hlen : st'.length ≤ 12) (hu : u.1 + 1 ≤ mt.2.2.2.2.2.2.1 ∧ u.2 + 8 ≤ mt.2.2.2.2.2.2.2.1)
    (hK : jx_Aft D l mt hf Po pc ls (u.1 + 1, u.2 + 8) (g.1 + 1, g.2) M 1 (g.1 : Int)) : jx_V D l mt Po pc ls st u g M := by
  intro p e s m args below meth c C H locs a hR hl hs hL hf' h1 h2 T hTH X
  subst hTH
  have t3 := hT p e _ s m args below meth c T locs u.1 u.2 a C X hR hl hs
  have hE := C.2.2.2.2.2.2.2.1
  have hsum := jx_cat_sum st'
  obtain ⟨T2, L, n, cell, X2, hn, hLb, hsz, hq, hcell, hst, hcls, hgo⟩ := jx_note_npe (D := D) (g := F0 m pc a (st'.map jx_cv)) X C.1 (jx_htr C.2.2.2.2.2.2.2.2.1 X.admits) (jx_words C.2.2.2.2.2.2.1 hE C.2.2.2.2.2.2.2.2.2.2.2.2 jx_pw1) hE.2.2.2.2.1 hE.2.2.2.2.2.1 hR.2.2.1
    rfl (by rw [C.2.2.1]; exact hL.1) (by show _ < 8 + _; omega) (by show 2 * 0 + ((st'.map jx_cv).map fun v => v.category).sum + 10240 ≤ 20000 + 100 * _; omega) hu.1 hu.2
  have hg1 : T.heap.size = g.1 := hR.1
  have hlocs : ∀ q ∈ locs ++ L, D.2.2.size ≤ q.base := fun q hq' => by
    rcases List.mem_append.mp hq' with z | z
    · exact hf' q z
    · have := hR.2.1
      rw [hLb q z]
      omega
  have ez : (g.1 : Int).toNat = T.heap.size := by omega
  have hX2 : Stand p l e (jx_rm mt.2.2.2.2.2.1 mt.2.2.2.2.2.2.1 mt.2.2.2.2.2.2.2.1) s m args below meth c T2 (locs ++ L) (u.1 + 1) (u.2 + 8) := ⟨X2.admits, X2.cas, X2.clock, X2.frames, X2.room, X2.hears, X2.method, X2.code, X2.here, X2.tail, X2.warmed, X2.limits, X2.bytes, X2.same.weaken (fun _ h _ => h) (Nat.le_refl _) (by omega)⟩
  refine jx_noted (u' := (u.1 + 1, u.2 + 8)) (g' := (g.1 + 1, g.2)) (T2 := T2) (stk := st'.map jx_cv) hH C hX2 jx_sub_grow (jx_R_grow hR 1 hsz hq) hl hL hlocs hu.1 hu.2 ?_ hK ?_
  · intro _
    refine ⟨by show (0 : Int) ≤ (g.1 : Int); omega, fun q => absurd q (show ¬ (1 : Int) = 6 by decide), cell, ?_, hst, hcls⟩
    show T2.heap[(g.1 : Int).toNat]? = _
    rw [ez]
    exact hcell
  · rw [ez]
    exact fun target h => t3 target (hgo target h)
end XT
