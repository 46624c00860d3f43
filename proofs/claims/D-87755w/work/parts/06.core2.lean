/-! THE MACHINE BY NUMBERS, 2: the judgement jx_V, one instruction (jx_wI), a run of instructions (jx_wR) -/
set_option maxRecDepth 100000
/-- a method: its class, code, locals, answer (0 int, 1 long, 2 reference, 3 none, 4 boolean), handlers, depth, cells, slots, name -/
abbrev jx_Mt : Type := String × ByteArray × Nat × Nat × List (Nat × Nat × Nat × Nat) × Nat × Nat × Nat × String
def jx_rm (d kc ks : Nat) : Room := { frames := 8 + d, cells := kc, slots := ks, locals := 20000 + 100 * d }
def jx_rt (rc : Nat) (r : Option FieldType) : Prop := match rc with
  | 0 => r = some .int
  | 1 => r = some .long
  | 2 => ∃ t : FieldType, r = some t ∧ ((∃ n, t = .object n) ∨ ∃ q, t = .array q)
  | 3 => r = none
  | _ => r = some .boolean
def jx_C (D : jx_D) (l : Launch) (mt : jx_Mt) (p : Program) (s : State) (m : MethodId) (args : Array Value) (meth : Method) (c : Code) : Prop :=
  p.tables.exec = Jvm.exec ∧ c.code = mt.2.1 ∧ c.maxLocals = mt.2.2.1 ∧ jx_rt mt.2.2.2.1 meth.sig.returnType ∧ meth.locks = false ∧ s.vm.findClass mt.1 = some m.cls ∧ (∀ w ∈ lw_all, w.before args s = true) ∧ jx_En D s ∧ l.flags = flags0 ∧
    c.exceptionTable.toList.map (fun h => (h.startPc, h.endPc, h.handlerPc, h.catchType)) = mt.2.2.2.2.1 ∧ meth.name = mt.2.2.2.2.2.2.2.2 ∧
    (D.2.2.size ≤ s.heap.size ∧ ∀ q : Nat, q < D.2.2.size → s.heap[q]? = D.2.2[q]?)
def jx_Ls (a : Array Slot) (n : Nat) (ls : List jx_A) : Prop := a.size = n ∧ lv_wf a ∧ ls.length = n ∧ ∀ (k : Nat) (v : jx_A), ls[k]? = some v → v.1 ≠ 5 → a[k]? = some (.val (jx_cv v))
def jx_oc (v : jx_A) : Outcome := match v with
  | (3, _, _) => .returned none
  | (4, _, z) => .threw z.toNat
  | v => .returned (some (jx_cv v))
/-- the classes of what is thrown -/
def jx_xn (c : Int) : String := if c = 1 then "java/lang/NullPointerException" else if c = 2 then "java/lang/ClassCastException" else if c = 3 then "java/lang/ArrayIndexOutOfBoundsException" else if c = 4 then "java/lang/ArithmeticException"
  else if c = 5 then "java/lang/NegativeArraySizeException" else "LoopLane$Refusal"
def jx_xo (g : jx_S) (s : State) (H : Heap) (v : jx_A) : Prop := v.1 = 4 → 0 ≤ v.2.2 ∧ (v.2.1 = 6 → g.2 v.2.2 = (64, 0)) ∧ ∃ cell : Cell, H[v.2.2.toNat]? = some cell ∧ cell.vm.isStatics = false ∧ s.vm.findClass (jx_xn v.2.1) = some cell.cls
abbrev jx_Po : Type := jx_A → jx_S → jx_M → Prop
/-- a method's end -/
def jx_E (D : jx_D) (Po : jx_Po) (kc ks : Nat) (s : State) (o : Outcome) (t : State) : Prop :=
  (∃ (v : jx_A) (g : jx_S) (M : jx_M), o = jx_oc v ∧ Po v g M ∧ jx_R D g M t.heap ∧ jx_ok1 g v ∧ jx_xo g s t.heap v) ∧ s.WarmedH t.vm ∧ ∃ L : List Loc, s.sameButNew ({ t with vm := s.vm } : State) L kc ks ∧ ∀ q ∈ L, D.2.2.size ≤ q.base
def jx_Q (D : jx_D) (Po : jx_Po) (kc ks : Nat) (below : List Frame) (s : State) : State → Prop := fun t => ∃ o, t.status = .running ∧ Ended t below o ∧ jx_E D Po kc ks s o t
def jx_sq (g : jx_S) (Po : jx_Po) : jx_Po := fun v g' M => jx_sub g g' ∧ Po v g' M
def jx_V (D : jx_D) (l : Launch) (mt : jx_Mt) (Po : jx_Po) (pc : Nat) (ls st : List jx_A) (u : Nat × Nat) (g : jx_S) (M : jx_M) : Prop :=
  ∀ (p : Program) (e : Env) (s : State) (m : MethodId) (args : Array Value) (below : List Frame) (meth : Method) (c : Code), jx_C D l mt p s m args meth c →
    ∀ (H : Heap) (locs : List Loc) (a : Array Slot), jx_R D g M H → jx_ok g ls → jx_ok g st → jx_Ls a mt.2.2.1 ls → (∀ q ∈ locs, D.2.2.size ≤ q.base) → u.1 ≤ mt.2.2.2.2.2.2.1 → u.2 ≤ mt.2.2.2.2.2.2.2.1 →
      W p l e (jx_rm mt.2.2.2.2.2.1 mt.2.2.2.2.2.2.1 mt.2.2.2.2.2.2.2.1) s m args below meth c H locs u.1 u.2 (jx_Q D (jx_sq g Po) mt.2.2.2.2.2.2.1 mt.2.2.2.2.2.2.2.1 below s) (F0 m pc a (st.map jx_cv))
abbrev jx_K : Type := Nat → List jx_A → List jx_A → (Nat × Nat) → jx_S → jx_M → Prop
/-- locals -/
def jx_get : List jx_A → Nat → jx_A
  | [], _ => (5, 0, 0)
  | a :: _, 0 => a
  | _ :: l, n + 1 => jx_get l n
def jx_dl (a : jx_A) : jx_A := match a with
  | (1, _, _) => (5, 0, 0)
  | a => a
def jx_set : List jx_A → Nat → jx_A → List jx_A
  | [], _, _ => []
  | _ :: l, 0, v => v :: l
  | a :: l, 1, v => jx_dl a :: jx_set l 0 v
  | a :: l, n + 2, v => a :: jx_set l (n + 1) v
def jx_set2 : List jx_A → Nat → jx_A → List jx_A
  | [], _, _ => []
  | [_], 0, v => [v]
  | _ :: _ :: l, 0, v => v :: (5, 0, 0) :: l
  | a :: l, 1, v => jx_dl a :: jx_set2 l 0 v
  | a :: l, n + 2, v => a :: jx_set2 l (n + 1) v
def jx_ix : Nat → List jx_A → Bool
  | 0, _ :: _ => true
  | n + 1, _ :: l => jx_ix n l
  | _, [] => false
/-- fields: (index, tag of the object, place, 0 int or other | 1 boolean | 2 final, what lies there) -/
abbrev jx_F : Type := Nat × Nat × Int × Nat × Nat × Nat × Int × Int
def jx_lk : List jx_F → Nat → Nat → Option (Int × Nat × Nat × Nat × Int × Int)
  | [], _, _ => none
  | (i, t, r) :: l, j, t' => if i = j ∧ t = t' then some r else jx_lk l j t'
def jx_lc : List (Nat × Int) → Nat → Option Int
  | [], _ => none
  | (i, r) :: l, j => if i = j then some r else jx_lc l j
/-- a class's own tables: name, fields, int constants, long constants -/
abbrev jx_O : Type := String × List jx_F × List (Nat × Int) × List (Nat × Int)
/-- a callee as it is used: how many arguments, cells, slots, what it does -/
abbrev jx_Sp : Type := List jx_A → jx_S → jx_M → jx_Po → Prop
abbrev jx_Cs : Type := List (Nat × Nat × Nat × Nat × jx_Sp)
def jx_ck : jx_Cs → Nat → Option (Nat × Nat × Nat × jx_Sp)
  | [], _ => none
  | (i, r) :: l, j => if i = j then some r else jx_ck l j
def jx_pop : Nat → List jx_A → List jx_A → Option (List jx_A × List jx_A)
  | 0, st, acc => some (acc, st)
  | n + 1, v :: st, acc => jx_pop n st (v :: acc)
  | _ + 1, [], _ => none
def jx_ex (c z : Int) : jx_A := if c = 6 then (64, 0, z) else (2, 0, z)
def jx_back (hf : Nat → Int → Option Nat) (Po : jx_Po) (K : jx_K) (pc : Nat) (ls st : List jx_A) (u : Nat × Nat) : jx_Po := fun v g M => match v with
  | (3, _, _) => K (pc + 3) ls st u g M
  | (4, c, z) => match hf pc c with
    | some h => K h ls [jx_ex c z] u g M
    | none => Po (4, c, z) g M
  | v => K (pc + 3) ls (v :: st) u g M
def jx_call (hf : Nat → Int → Option Nat) (kc ks : Nat) (Po : jx_Po) (K : jx_K) (pc : Nat) (ls st : List jx_A) (u : Nat × Nat) (g : jx_S) (M : jx_M) (o : Option (Nat × Nat × Nat × jx_Sp)) : Prop := match o with
  | some (n, c1, c2, S) => match jx_pop n st [] with
    | some (as, rest) => (u.1 + c1 ≤ kc ∧ u.2 + c2 ≤ ks) ∧ rest.length ≤ 12 ∧ S as g M (jx_back hf Po K pc ls rest (u.1 + c1, u.2 + c2))
    | none => False
  | none => False
def jx_rel (c : ClassFile.Cond) (x y : Int) : Prop := match c with
  | .eq => x = y
  | .ne => x ≠ y
  | .lt => x < y
  | .ge => y ≤ x
  | .gt => y < x
  | .le => x ≤ y
def jx_and (x y : Int) : Int := (Int32.ofInt x &&& Int32.ofInt y).toInt
def jx_shr (x y : Int) : Int := (Int32.ofInt x >>> (Int32.ofInt y &&& 31)).toInt
def jx_ushr (x y : Int) : Int := ((Int32.ofInt x).toUInt32 >>> ((Int32.ofInt y).toUInt32 &&& Int32.toUInt32 31)).toInt32.toInt
def jx_ladd (x y : Int) : Int := (Int64.ofInt x + Int64.ofInt y).toInt
def jx_lmul (x y : Int) : Int := (Int64.ofInt x * Int64.ofInt y).toInt
def jx_ldiv (x y : Int) : Int := (Int64.ofInt x / Int64.ofInt y).toInt
def jx_land (x y : Int) : Int := (Int64.ofInt x &&& Int64.ofInt y).toInt
def jx_lor (x y : Int) : Int := (Int64.ofInt x ||| Int64.ofInt y).toInt
def jx_lshl (x y : Int) : Int := (Int64.ofInt x <<< ((Int32.ofInt y).toInt64 &&& 63)).toInt
def jx_ri (st : List jx_A) (k : Int → List jx_A → Prop) : Prop := match st with
  | (0, _, z) :: st => k z st
  | _ => False
def jx_rl (st : List jx_A) (k : Int → List jx_A → Prop) : Prop := match st with
  | (1, _, z) :: st => k z st
  | _ => False
def jx_isr : Nat → Bool
  | 0 => false
  | 1 => false
  | 3 => false
  | 4 => false
  | 5 => false
  | 6 => false
  | _ => true
def jx_gf (q : Option (Int × Nat × Nat × Nat × Int × Int)) (a : Int) (M : jx_M) (k : jx_A → Prop) : Prop := match q with
  | some (j, _, 0, _, _, _) => k (0, 0, M a j)
  | some (j, _, 1, _, _, _) => k (1, 0, M a j)
  | some (j, _, 2, _, _, _) => k (2, 0, M a j)
  | some (_, _, 6, t, n, o) => k (t, n, a + o)
  | _ => False
def jx_pf (q : Option (Int × Nat × Nat × Nat × Int × Int)) (v : jx_A) (a : Int) (M : jx_M) (k : jx_M → Prop) : Prop := match q, v with
  | some (j, 0, 0, _, _, _), (0, _, z) => k (jx_u M a j z)
  | some (j, 1, 0, _, _, _), (0, _, z) => (z = 0 ∨ z = 1) ∧ k (jx_u M a j z)
  | some (j, 0, 1, _, _, _), (1, _, z) => k (jx_u M a j z)
  | some (j, 0, 2, _, _, _), (t, _, z) => match jx_isr t with
    | true => k (jx_u M a j z)
    | false => False
  | _, _ => False
def jx_al (k : Nat) (i a : Int) (g : jx_S) (M : jx_M) (f : jx_A → Prop) : Prop := match k with
  | 30 => 1 ≤ i ∧ f (64, 0, a + (48 + i))
  | 31 => f (62, 0, a + (1 + i))
  | 32 => (66 ≤ (g.2 (M a i)).1 ∧ (g.2 (M a i)).1 ≤ 72 ∧ (g.2 (M a i)).2 = 0) ∧ f (80, 0, M a i)
  | 33 => f (66, 0, a + (47 + 21 * i))
  | 34 => f (67, 0, a + (49 + 21 * i))
  | 35 => f (68, 0, a + (51 + 21 * i))
  | 36 => f (69, 0, a + (53 + 21 * i))
  | 37 => f (70, 0, a + (55 + 21 * i))
  | 38 => f (71, 0, a + (57 + 21 * i))
  | 39 => f (72, 0, a + (59 + 21 * i))
  | _ => False
def jx_tg (pc : Nat) (o : Int) : Nat := ((pc : Int) + o).toNat
def jx_tk (pc : Nat) (o : Int) : Bool := decide (0 ≤ (pc : Int) + o)
def jx_op (k : Nat) : Instr := if k % 3 = 0 then .invokevirtual (k / 3) else if k % 3 = 1 then .invokestatic (k / 3) else .invokespecial (k / 3)
/-- ONE INSTRUCTION, goal first -/
def jx_wI (o : jx_O) (cs : jx_Cs) (hf : Nat → Int → Option Nat) (rc kc ks : Nat) (Po : jx_Po) (K : jx_K) (i : Instr) (len pc : Nat) (ls st : List jx_A) (u : Nat × Nat) (g : jx_S) (M : jx_M) : Prop := match i, len with
  | .iconst v, 1 => K (pc + 1) ls ((0, 0, v) :: st) u g M
  | .bipush v, 2 => (-128 ≤ v ∧ v ≤ 127) ∧ K (pc + 2) ls ((0, 0, v) :: st) u g M
  | .sipush v, 3 => (-32768 ≤ v ∧ v ≤ 32767) ∧ K (pc + 3) ls ((0, 0, v) :: st) u g M
  | .lconst v, 1 => K (pc + 1) ls ((1, 0, (v.val : Int)) :: st) u g M
  | .aconst_null, 1 => K (pc + 1) ls ((2, 0, -1) :: st) u g M
  | .ldc x, 2 => match jx_lc o.2.2.1 x with
    | some v => K (pc + 2) ls ((0, 0, v) :: st) u g M
    | none => False
  | .ldc2_w x, 3 => match jx_lc o.2.2.2 x with
    | some v => jx_r64 v ∧ K (pc + 3) ls ((1, 0, v) :: st) u g M
    | none => False
  | .iload n, 2 => jx_ri [jx_get ls n] fun z _ => K (pc + 2) ls ((0, 0, z) :: st) u g M
  | .iload_n n, 1 => jx_ri [jx_get ls n] fun z _ => K (pc + 1) ls ((0, 0, z) :: st) u g M
  | .lload n, 2 => jx_rl [jx_get ls n] fun z _ => K (pc + 2) ls ((1, 0, z) :: st) u g M
  | .lload_n n, 1 => jx_rl [jx_get ls n] fun z _ => K (pc + 1) ls ((1, 0, z) :: st) u g M
  | .aload n, 2 => match jx_isr (jx_get ls n).1 with
    | true => K (pc + 2) ls (jx_get ls n :: st) u g M
    | false => False
  | .aload_n n, 1 => match jx_isr (jx_get ls n).1 with
    | true => K (pc + 1) ls (jx_get ls n :: st) u g M
    | false => False
  | .istore n, 2 => match jx_ix (n) ls with
    | true => jx_ri st fun z st => K (pc + 2) (jx_set ls n (0, 0, z)) st u g M
    | false => False
  | .istore_n n, 1 => match jx_ix (n) ls with
    | true => jx_ri st fun z st => K (pc + 1) (jx_set ls n (0, 0, z)) st u g M
    | false => False
  | .lstore n, 2 => match jx_ix (n + 1) ls with
    | true => jx_rl st fun z st => K (pc + 2) (jx_set2 ls n (1, 0, z)) st u g M
    | false => False
  | .lstore_n n, 1 => match jx_ix (n + 1) ls with
    | true => jx_rl st fun z st => K (pc + 1) (jx_set2 ls n (1, 0, z)) st u g M
    | false => False
  | .astore n, 2 => match jx_ix n ls with
    | true => match st with
      | v :: st => match jx_isr v.1 with
        | true => K (pc + 2) (jx_set ls n v) st u g M
        | false => False
      | [] => False
    | false => False
  | .astore_n n, 1 => match jx_ix n ls with
    | true => match st with
      | v :: st => match jx_isr v.1 with
        | true => K (pc + 1) (jx_set ls n v) st u g M
        | false => False
      | [] => False
    | false => False
  | .iinc n k, 3 => jx_ri [jx_get ls n] fun z _ => K (pc + 3) (jx_set ls n (0, 0, z + k)) st u g M
  | .iadd, 1 => jx_ri st fun y st => jx_ri st fun x st => K (pc + 1) ls ((0, 0, x + y) :: st) u g M
  | .isub, 1 => jx_ri st fun y st => jx_ri st fun x st => K (pc + 1) ls ((0, 0, x - y) :: st) u g M
  | .imul, 1 => jx_ri st fun y st => jx_ri st fun x st => K (pc + 1) ls ((0, 0, x * y) :: st) u g M
  | .ineg, 1 => jx_ri st fun x st => K (pc + 1) ls ((0, 0, -x) :: st) u g M
  | .idiv, 1 => jx_ri st fun y st => jx_ri st fun x st => (jx_r x ∧ jx_r y ∧ y ≠ 0) ∧ K (pc + 1) ls ((0, 0, x.tdiv y) :: st) u g M
  | .irem, 1 => jx_ri st fun y st => jx_ri st fun x st => (jx_r x ∧ jx_r y ∧ y ≠ 0) ∧ K (pc + 1) ls ((0, 0, x.tmod y) :: st) u g M
  | .iand, 1 => jx_ri st fun y st => jx_ri st fun x st => K (pc + 1) ls ((0, 0, jx_and x y) :: st) u g M
  | .ishr, 1 => jx_ri st fun y st => jx_ri st fun x st => K (pc + 1) ls ((0, 0, jx_shr x y) :: st) u g M
  | .iushr, 1 => jx_ri st fun y st => jx_ri st fun x st => K (pc + 1) ls ((0, 0, jx_ushr x y) :: st) u g M
  | .ladd, 1 => jx_rl st fun y st => jx_rl st fun x st => K (pc + 1) ls ((1, 0, jx_ladd x y) :: st) u g M
  | .lmul, 1 => jx_rl st fun y st => jx_rl st fun x st => K (pc + 1) ls ((1, 0, jx_lmul x y) :: st) u g M
  | .ldiv, 1 => jx_rl st fun y st => jx_rl st fun x st => y ≠ 0 ∧ K (pc + 1) ls ((1, 0, jx_ldiv x y) :: st) u g M
  | .land, 1 => jx_rl st fun y st => jx_rl st fun x st => K (pc + 1) ls ((1, 0, jx_land x y) :: st) u g M
  | .lor, 1 => jx_rl st fun y st => jx_rl st fun x st => K (pc + 1) ls ((1, 0, jx_lor x y) :: st) u g M
  | .lshl, 1 => jx_ri st fun y st => jx_rl st fun x st => K (pc + 1) ls ((1, 0, jx_lshl x y) :: st) u g M
  | .lcmp, 1 => jx_rl st fun y st => jx_rl st fun x st => K (pc + 1) ls ((0, 0, jx_cmp x y) :: st) u g M
  | .i2l, 1 => jx_ri st fun x st => jx_r x ∧ K (pc + 1) ls ((1, 0, x) :: st) u g M
  | .l2i, 1 => jx_rl st fun x st => K (pc + 1) ls ((0, 0, x) :: st) u g M
  | .dup, 1 => match st with
    | (1, _, _) :: _ => False
    | v :: st => K (pc + 1) ls (v :: v :: st) u g M
    | [] => False
  | .pop, 1 => match st with
    | (1, _, _) :: _ => False
    | _ :: st => K (pc + 1) ls st u g M
    | [] => False
  | .dup2, 1 => match st with
    | (1, _, _) :: _ => False
    | _ :: (1, _, _) :: _ => False
    | v :: w :: st => K (pc + 1) ls (v :: w :: v :: w :: st) u g M
    | _ => False
  | .if_icmp c off, 3 => jx_ri st fun y st => jx_ri st fun x st => (0 ≤ (pc : Int) + off ∧ jx_r x ∧ jx_r y) ∧ (jx_rel c x y → K (jx_tg pc off) ls st u g M) ∧ (¬ jx_rel c x y → K (pc + 3) ls st u g M)
  | .ifCond c off, 3 => jx_ri st fun x st => (0 ≤ (pc : Int) + off ∧ jx_r x) ∧ (jx_rel c x 0 → K (jx_tg pc off) ls st u g M) ∧ (¬ jx_rel c x 0 → K (pc + 3) ls st u g M)
  | .ifnull off, 3 => match st with
    | (t, _, z) :: st => match jx_isr t with
      | true => 0 ≤ (pc : Int) + off ∧ (z < 0 → K (jx_tg pc off) ls st u g M) ∧ (¬ z < 0 → K (pc + 3) ls st u g M)
      | false => False
    | [] => False
  | .goto off, 3 => 0 ≤ (pc : Int) + off ∧ K (jx_tg pc off) ls st u g M
  | .getfield x, 3 => match st with
    | (t, _, a) :: st => jx_gf (jx_lk o.2.1 x t) a M fun v => K (pc + 3) ls (v :: st) u g M
    | [] => False
  | .putfield x, 3 => match st with
    | v :: (t, _, a) :: st => jx_pf (jx_lk o.2.1 x t) v a M fun M => K (pc + 3) ls st u g M
    | _ => False
  | .iaload, 1 => jx_ri st fun i st => match st with
    | (10, n, a) :: st => (0 ≤ i ∧ i < n) ∧ K (pc + 1) ls ((0, 0, M a i) :: st) u g M
    | (14, n, a) :: st => (0 ≤ i ∧ i < n) ∧ K (pc + 1) ls ((0, 0, M a i) :: st) u g M
    | _ => False
  | .laload, 1 => jx_ri st fun i st => match st with
    | (11, n, a) :: st => (0 ≤ i ∧ i < n) ∧ K (pc + 1) ls ((1, 0, M a i) :: st) u g M
    | _ => False
  | .baload, 1 => jx_ri st fun i st => match st with
    | (12, n, a) :: st => (0 ≤ i ∧ i < n) ∧ K (pc + 1) ls ((0, 0, M a i) :: st) u g M
    | _ => False
  | .aaload, 1 => jx_ri st fun i st => match st with
    | (t, n, a) :: st => (0 ≤ i ∧ i < n) ∧ jx_al t i a g M fun v => K (pc + 1) ls (v :: st) u g M
    | [] => False
  | .iastore, 1 => jx_ri st fun v st => jx_ri st fun i st => match st with
    | (10, n, a) :: st => (0 ≤ i ∧ i < n) ∧ K (pc + 1) ls st u g (jx_u M a i v)
    | _ => False
  | .lastore, 1 => jx_rl st fun v st => jx_ri st fun i st => match st with
    | (11, n, a) :: st => (0 ≤ i ∧ i < n) ∧ K (pc + 1) ls st u g (jx_u M a i v)
    | _ => False
  | .bastore, 1 => jx_ri st fun v st => jx_ri st fun i st => match st with
    | (12, n, a) :: st => (0 ≤ i ∧ i < n) ∧ (v = 0 ∨ v = 1) ∧ K (pc + 1) ls st u g (jx_u M a i v)
    | _ => False
  | .arraylength, 1 => match st with
    | (10, n, _) :: st => K (pc + 1) ls ((0, 0, n) :: st) u g M
    | (11, n, _) :: st => K (pc + 1) ls ((0, 0, n) :: st) u g M
    | (14, n, _) :: st => K (pc + 1) ls ((0, 0, n) :: st) u g M
    | _ => False
  | .invokevirtual x, 3 => jx_call hf kc ks Po K pc ls st u g M (jx_ck cs (3 * x))
  | .invokestatic x, 3 => jx_call hf kc ks Po K pc ls st u g M (jx_ck cs (3 * x + 1))
  | .invokespecial x, 3 => jx_call hf kc ks Po K pc ls st u g M (jx_ck cs (3 * x + 2))
  | .ireturn, 1 => match st, rc with
    | [(0, _, z)], 0 => Po (0, 0, z) g M
    | [(0, _, z)], 4 => (z = 0 ∨ z = 1) ∧ Po (0, 0, z) g M
    | _, _ => False
  | .lreturn, 1 => match st, rc with
    | [(1, _, z)], 1 => Po (1, 0, z) g M
    | _, _ => False
  | .areturn, 1 => match st, rc with
    | [(t, n, z)], 2 => match jx_isr t with
      | true => Po (t, n, z) g M
      | false => False
    | _, _ => False
  | .return_, 1 => match st, rc with
    | [], 3 => Po (3, 0, 0) g M
    | _, _ => False
  | _, _ => False
def jx_wS (o : jx_O) (cs : jx_Cs) (hf : Nat → Int → Option Nat) (rc kc ks : Nat) (Po : jx_Po) (K' K : jx_K) (b : Bool) (q : Except DecodeError (Instr × Nat)) (pc : Nat) (ls st : List jx_A) (u : Nat × Nat) (g : jx_S) (M : jx_M) : Prop := match b, q with
  | true, _ => K pc ls st u g M
  | false, .ok (i, len) => jx_wI o cs hf rc kc ks Po K' i len pc ls st u g M
  | _, _ => False
/-- A RUN of at most n instructions, up to the pcs of 'sp' -/
def jx_wR (o : jx_O) (cs : jx_Cs) (hf : Nat → Int → Option Nat) (rc kc ks : Nat) (cc : ByteArray) (sp : Nat → Bool) (Po : jx_Po) (K : jx_K) : Nat → jx_K
  | 0 => K
  | f + 1 => fun pc ls st u g M => jx_wS o cs hf rc kc ks Po (jx_wR o cs hf rc kc ks cc sp Po K f) K (sp pc) (decode cc pc) pc ls st u g M
