/-! THE MACHINE BY NUMBERS, 1: abstract values, memory, shapes -/
set_option maxRecDepth 100000
/-- an abstract value: tag, aux, number. Tags: 0 int, 1 long, 2 a reference or null (-1), 3 void, 4 thrown, 5 nothing, 6 (in shapes alone) a fixed reference, 10.. a reference to a cell of that kind (80: any act, 81: Fetch or Store) -/
abbrev jx_A : Type := Nat × Int × Int
abbrev jx_M : Type := Int → Int → Int
abbrev jx_S : Type := Nat × (Int → Nat × Int)
abbrev jx_D : Type := (Nat → ClassId) × (Nat → Nat → Nat) × Heap
def jx_u (M : jx_M) (a i v : Int) : jx_M := fun a' i' => if a' = a ∧ i' = i then v else M a' i'
def jx_cv (v : jx_A) : Value := match v with
  | (0, _, z) => .int (Int32.ofInt z)
  | (1, _, z) => .long (Int64.ofInt z)
  | (_, _, z) => if z < 0 then .null else .ref z.toNat
abbrev jx_r (z : Int) : Prop := -2147483648 ≤ z ∧ z ≤ 2147483647
abbrev jx_r64 (z : Int) : Prop := -9223372036854775808 ≤ z ∧ z ≤ 9223372036854775807
def jx_in (t k : Nat) : Prop := if t = 80 then 66 ≤ k ∧ k ≤ 72 else if t = 81 then k = 70 ∨ k = 71 else k = t
/-- kinds of cells that are being made (raw): no value bears such a tag -/
abbrev jx_nr (t : Nat) : Prop := ¬ (20 ≤ t ∧ t < 30) ∧ ¬ (40 ≤ t ∧ t < 60)
def jx_ok1 (g : jx_S) (v : jx_A) : Prop := (v.1 = 1 → jx_r64 v.2.2) ∧ (10 ≤ v.1 → jx_in v.1 (g.2 v.2.2).1 ∧ (g.2 v.2.2).2 = v.2.1) ∧ (10 ≤ v.1 → jx_nr v.1)
/-- shapes stay -/
def jx_sub (g g' : jx_S) : Prop := ∀ z : Int, 10 ≤ (g.2 z).1 → jx_nr (g.2 z).1 → g'.2 z = g.2 z
def jx_ok (g : jx_S) (l : List jx_A) : Prop := ∀ v ∈ l, jx_ok1 g v
def jx_bk (k : Nat) : Nat := if 60 ≤ k then k - 20 else if 30 ≤ k ∧ k < 40 then k - 10 else k
def jx_cl : Nat → Option vw_C
  | 40 => some (RX0, TX0, 47)
  | 41 => some (RX1, TX1, 1)
  | 42 => some (RX2, TX2, 1)
  | 43 => some (RX3, TX3, 8)
  | 44 => some (RX4, TX4, 7)
  | 46 => some (RX6, TX6, 8)
  | 47 => some (RX7, TX7, 7)
  | 48 => some (RX8, TX8, 7)
  | 49 => some (RX9, TX9, 7)
  | 50 => some (RX10, TX10, 8)
  | 51 => some (RX11, TX11, 8)
  | 52 => some (RX12, TX12, 7)
  | 53 => some (RX13, TX13, 45)
  | _ => none
def jx_aty : Nat → Option FieldType
  | 10 => some .int
  | 11 => some .long
  | 12 => some .boolean
  | 14 => some .int
  | 20 => some (.object "LoopLane$Refusal")
  | 21 => some (.object "LoopLane$Slot")
  | 22 => some (.object "LoopLane$Act")
  | 23 => some (.object "LoopLane$Put")
  | 24 => some (.object "LoopLane$Sum")
  | 25 => some (.object "LoopLane$Times")
  | 26 => some (.object "LoopLane$Over")
  | 27 => some (.object "LoopLane$Fetch")
  | 28 => some (.object "LoopLane$Store")
  | 29 => some (.object "LoopLane$Pick")
  | _ => none
/-- what lies in place i of a cell of a kind: (tag, and of a fixed reference: its kind, length, distance) -/
def jx_sd (k : Nat) (i : Int) : Nat × Nat × Int × Int := match k with
  | 10 => (0, 0, 0, 0)
  | 11 => (1, 0, 0, 0)
  | 12 => (0, 0, 0, 0)
  | 14 => (0, 0, 0, 0)
  | 30 => if i ≤ 0 then (2, 0, 0, 0) else (6, 64, 0, 48 + i)
  | 31 => (6, 62, 0, 1 + i)
  | 33 => (6, 66, 0, 47 + 21 * i)
  | 34 => (6, 67, 0, 49 + 21 * i)
  | 35 => (6, 68, 0, 51 + 21 * i)
  | 36 => (6, 69, 0, 53 + 21 * i)
  | 37 => (6, 70, 0, 55 + 21 * i)
  | 38 => (6, 71, 0, 57 + 21 * i)
  | 39 => (6, 72, 0, 59 + 21 * i)
  | 40 => if i = 5 ∨ i = 18 ∨ i = 23 ∨ i = 24 ∨ i = 25 ∨ i = 26 ∨ i = 30 ∨ i = 34 ∨ i = 35 then (0, 0, 0, 0) else (2, 0, 0, 0)
  | 43 => if i = 7 then (2, 0, 0, 0) else (0, 0, 0, 0)
  | 44 => if 5 ≤ i then (0, 0, 0, 0) else (2, 0, 0, 0)
  | 46 => if i = 3 ∨ i = 7 then (1, 0, 0, 0) else if i = 5 ∨ i = 6 then (2, 0, 0, 0) else (0, 0, 0, 0)
  | 47 => if i = 3 then (1, 0, 0, 0) else if i = 5 ∨ i = 6 then (2, 0, 0, 0) else (0, 0, 0, 0)
  | 48 => if i = 3 then (1, 0, 0, 0) else if i = 5 ∨ i = 6 then (2, 0, 0, 0) else (0, 0, 0, 0)
  | 49 => if i = 3 then (1, 0, 0, 0) else if i = 5 ∨ i = 6 then (2, 0, 0, 0) else (0, 0, 0, 0)
  | 50 => if i = 3 then (1, 0, 0, 0) else if i = 5 ∨ i = 6 then (2, 0, 0, 0) else (0, 0, 0, 0)
  | 51 => if i = 3 then (1, 0, 0, 0) else if i = 5 ∨ i = 6 then (2, 0, 0, 0) else (0, 0, 0, 0)
  | 52 => if i = 3 then (1, 0, 0, 0) else if i = 5 ∨ i = 6 then (2, 0, 0, 0) else (0, 0, 0, 0)
  | 53 => if i = 9 ∨ i = 15 ∨ i = 20 ∨ i = 26 ∨ i = 27 ∨ i = 32 ∨ 38 ≤ i then (0, 0, 0, 0) else (2, 0, 0, 0)
  | 60 => if i = 0 then (6, 30, 12, 1) else if i = 1 then (6, 10, 12, 2) else if i = 2 then (2, 0, 0, 0) else if i = 3 then (6, 61, 0, 3) else if i = 4 then (6, 32, 16, 13) else if i = 5 then (0, 0, 0, 0)
      else if i ≤ 12 then (6, 27 + i.toNat, 16, 8 + i) else if i = 13 then (6, 10, 6, 21) else if i ≤ 17 then (6, 10, 40, 8 + i) else if i = 18 then (0, 0, 0, 0) else if i ≤ 22 then (6, 10, 900, 7 + i)
      else if i ≤ 26 then (0, 0, 0, 0) else if i ≤ 29 then (6, 10, 16, 3 + i) else if i = 30 then (0, 0, 0, 0) else if i ≤ 32 then (6, 10, 16, 2 + i) else if i = 33 then (6, 10, 360, 35)
      else if i ≤ 35 then (0, 0, 0, 0) else if i = 36 then (6, 10, 256, 36) else if i = 37 then (6, 63, 0, 37) else if i = 38 then (6, 63, 0, 39) else if i = 39 then (6, 63, 0, 41)
      else if i = 40 then (6, 11, 3200, 43) else if i = 41 then (6, 11, 16000, 44) else if i ≤ 43 then (6, 10, 16, 3 + i) else if i ≤ 45 then (6, 11, 320, 3 + i) else (6, 10, 6, 49)
  | 61 => (6, 31, 8, 1)
  | 63 => if i = 7 then (6, 11, 16, 1) else (0, 0, 0, 0)
  | 64 => if 5 ≤ i then (0, 0, 0, 0) else (2, 0, 0, 0)
  | 66 => if i = 3 ∨ i = 7 then (1, 0, 0, 0) else if i = 5 then (6, 10, 3, 1) else if i = 6 then (6, 10, 3, 2) else (0, 0, 0, 0)
  | 67 => if i = 3 then (1, 0, 0, 0) else if i = 5 then (6, 10, 3, 1) else if i = 6 then (6, 10, 3, 2) else (0, 0, 0, 0)
  | 68 => if i = 3 then (1, 0, 0, 0) else if i = 5 then (6, 10, 3, 1) else if i = 6 then (6, 10, 3, 2) else (0, 0, 0, 0)
  | 69 => if i = 3 then (1, 0, 0, 0) else if i = 5 then (6, 10, 3, 1) else if i = 6 then (6, 10, 3, 2) else (0, 0, 0, 0)
  | 70 => if i = 3 then (1, 0, 0, 0) else if i = 5 then (6, 10, 3, 1) else if i = 6 then (6, 10, 3, 2) else (0, 0, 0, 0)
  | 71 => if i = 3 then (1, 0, 0, 0) else if i = 5 then (6, 10, 3, 1) else if i = 6 then (6, 10, 3, 2) else (0, 0, 0, 0)
  | 72 => if i = 3 then (1, 0, 0, 0) else if i = 5 then (6, 10, 3, 1) else if i = 6 then (6, 10, 3, 2) else (0, 0, 0, 0)
  | 73 => if i ≤ 4 then (6, 10, 16, 1 + i) else if i ≤ 6 then (6, 10, 48, 1 + i) else if i ≤ 8 then (6, 11, 16, 1 + i) else if i = 9 then (0, 0, 0, 0) else if i = 10 then (6, 10, 6, 10) else if i ≤ 14 then (6, 10, 40, i)
      else if i = 15 then (0, 0, 0, 0) else if i ≤ 19 then (6, 10, 704, i - 1) else if i = 20 then (0, 0, 0, 0) else if i ≤ 22 then (6, 11, 320, i - 2) else if i = 23 then (6, 10, 8, 21) else if i = 24 then (6, 12, 8, 22)
      else if i = 25 then (6, 10, 12, 23) else if i ≤ 27 then (0, 0, 0, 0) else if i ≤ 31 then (6, 10, 16, i - 4) else if i = 32 then (0, 0, 0, 0) else if i ≤ 34 then (6, 10, 16, i - 5) else if i = 35 then (6, 10, 60, 30)
      else if i = 36 then (6, 10, 6, 31) else if i = 37 then (6, 11, 3216, 32) else (0, 0, 0, 0)
  | _ => (2, 0, 0, 0)
def jx_of (q : Nat × Nat × Int × Int) (a m : Int) : jx_A := if q.1 = 6 then (q.2.1, q.2.2.1, a + q.2.2.2) else (q.1, 0, m)
def jx_ld (k : Nat) (a i : Int) (M : jx_M) : jx_A := jx_of (jx_sd k i) a (M a i)
def jx_cnt (k : Nat) (n : Int) : Int := if k < 40 then n else match jx_cl (jx_bk k) with
  | some q => q.2.2
  | none => 0
def jx_ps (D : jx_D) (k i : Nat) : Nat := if k < 40 then i else D.2.1 (jx_bk k) i
def jx_Cl (D : jx_D) (g : jx_S) (M : jx_M) (H : Heap) (z : Int) : Prop :=
  0 ≤ z ∧ ((g.2 z).1 ≠ 14 → (D.2.2.size : Int) ≤ z) ∧ (0 ≤ (g.2 z).2 ∧ (g.2 z).2 ≤ 2147483647) ∧ ∃ cell : Cell, H[z.toNat]? = some cell ∧ cell.cls = D.1 (jx_bk (g.2 z).1) ∧ cell.vm = .none ∧
    ((g.2 z).1 < 40 → (cell.slots.size : Int) = (g.2 z).2) ∧ ∀ i : Nat, (i : Int) < jx_cnt (g.2 z).1 (g.2 z).2 → cell.slots[jx_ps D (g.2 z).1 i]? = some (jx_cv (jx_ld (g.2 z).1 z i M)) ∧ jx_ok1 g (jx_ld (g.2 z).1 z i M)
def jx_R (D : jx_D) (g : jx_S) (M : jx_M) (H : Heap) : Prop :=
  H.size = g.1 ∧ D.2.2.size ≤ H.size ∧ (∀ q : Nat, q < D.2.2.size → H[q]? = D.2.2[q]?) ∧ ∀ z : Int, 10 ≤ (g.2 z).1 → jx_Cl D g M H z
/-- words that are carried beside lw_all -/
def jx_nw (w : Cond) : Bool := match w with
  | .fieldLinkNest .. => true
  | .methodLinkNest .. => true
  | .castable .. => true
  | .declares .. => true
  | .arrayOver (.object _) => true
  | _ => false
def jx_nl : List Cond := lw_tbl.filter jx_nw
/-- a static field is laid in a class's cell of statics -/
def jx_LS (C n d : String) (s : State) (H : Heap) : Prop := ∃ (c : ClassId) (k : Class) (i : Nat) (f : Field) (a : Nat) (cell : Cell), s.vm.findClass C = some c ∧ s.fieldFound? C n d = some (c, k, i, f) ∧ f.isStatic = true ∧ k.statics = some a ∧ H[a]? = some cell ∧ cell.vm.isStatics = true ∧ cell.cls = c ∧ f.slot < cell.slots.size ∧ k.staticTypes[f.slot]? = some f.type
/-- what every method's start knows of the tables -/
def jx_En (D : jx_D) (s : State) : Prop :=
  (∀ (k : Nat) (q : vw_C), jx_cl k = some q → u_Kn s q.1 q.2.1 q.2.2 (D.1 k) (D.2.1 k)) ∧
  (∀ (k : Nat) (ty : FieldType), jx_aty k = some ty → s.vm.findClass ("[" ++ ty.toString) = some (D.1 k) ∧ ∃ (kA : Class) (comp : ClassId), s.vm.classes[D.1 k]? = some kA ∧ kA.kind = .array comp ty ∧ ∀ C : String, ty = .object C → s.vm.findClass C = some comp ∧ ∃ kc : Class, s.vm.classes[comp]? = some kc) ∧
  (∀ w ∈ jx_nl, w.before #[] s = true) ∧
  (∀ C T : String, Cond.not (.castable C T) ∈ flatC (Jvm.Cond.and given_1 narrow_1) → va_Nc C T s) ∧
  va_Zq "java/lang/Throwable" "UNASSIGNED_STACK" "[Ljava/lang/StackTraceElement;" (fun _ => False) s D.2.2 ∧ va_Zq "java/lang/Throwable" "SUPPRESSED_SENTINEL" "Ljava/util/List;" (fun _ => False) s D.2.2 ∧ modulesRight_1 s = true ∧
  jx_LS "java/lang/Throwable" "UNASSIGNED_STACK" "[Ljava/lang/StackTraceElement;" s D.2.2 ∧ jx_LS "java/lang/Throwable" "SUPPRESSED_SENTINEL" "Ljava/util/List;" s D.2.2
theorem jx_ti {z : Int} (h : jx_r z) : (Int32.ofInt z).toInt = z := by
  rw [Int32.toInt_ofInt]
  have h1 := h.1
  have h2 := h.2
  simp only [Int.bmod, Int32.size]
  omega
theorem jx_ti64 {z : Int} (h : jx_r64 z) : (Int64.ofInt z).toInt = z := by
  rw [Int64.toInt_ofInt]
  have h1 := h.1
  have h2 := h.2
  simp only [Int.bmod, Int64.size]
  omega
theorem jx_rr (x : Int64) : jx_r64 x.toInt := ⟨by have := Int64.le_toInt x; omega, by have := Int64.toInt_lt x; omega⟩
theorem jx_rI (x : Int32) : jx_r x.toInt := ⟨by have := Int32.le_toInt x; omega, by have := Int32.toInt_lt x; omega⟩
theorem jx_lt {x y : Int} (hx : jx_r x) (hy : jx_r y) : Int32.ofInt x < Int32.ofInt y ↔ x < y := by
  rw [Int32.lt_iff_toInt_lt, jx_ti hx, jx_ti hy]
theorem jx_le {x y : Int} (hx : jx_r x) (hy : jx_r y) : Int32.ofInt x ≤ Int32.ofInt y ↔ x ≤ y := by
  rw [Int32.le_iff_toInt_le, jx_ti hx, jx_ti hy]
theorem jx_eq {x y : Int} (hx : jx_r x) (hy : jx_r y) : Int32.ofInt x = Int32.ofInt y ↔ x = y := by
  rw [← Int32.toInt_inj, jx_ti hx, jx_ti hy]
theorem jx_cn {z : Int} (h0 : 0 ≤ z) (h : z ≤ 2147483647) : (Int32.ofInt z).toNatClampNeg = z.toNat := by
  rw [← Int32.toNat_toInt, jx_ti ⟨by omega, h⟩]
theorem jx_ib {i : Int} {n : Nat} (h0 : 0 ≤ i) (h : i < n) (hn : (n : Int) ≤ 2147483647) : ¬ (Int32.ofInt i < 0 ∨ n ≤ (Int32.ofInt i).toNatClampNeg) := by
  rw [jx_cn h0 (by omega)]
  have h1 : ¬ Int32.ofInt i < 0 := by
    have : Int32.ofInt i < Int32.ofInt 0 ↔ i < 0 := jx_lt ⟨by omega, by omega⟩ ⟨by omega, by omega⟩
    have e : Int32.ofInt 0 = 0 := rfl
    rw [← e, this]
    omega
  rintro (h2 | h2)
  · exact h1 h2
  · omega
theorem jx_ne0 {y : Int} (hy : jx_r y) (h : y ≠ 0) : ¬ Int32.ofInt y = 0 := by
  have e : Int32.ofInt 0 = 0 := rfl
  rw [← e, jx_eq hy ⟨by omega, by omega⟩]
  exact h
theorem jx_div {x y : Int} (hx : jx_r x) (hy : jx_r y) : Int32.ofInt x / Int32.ofInt y = Int32.ofInt (x.tdiv y) := by
  rw [← Int32.toInt_inj, Int32.toInt_div, jx_ti hx, jx_ti hy, Int32.toInt_ofInt]
theorem jx_rem {x y : Int} (hx : jx_r x) (hy : jx_r y) : Int32.ofInt x - Int32.ofInt x / Int32.ofInt y * Int32.ofInt y = Int32.ofInt (x.tmod y) := by
  rw [jx_div hx hy, ← Int32.ofInt_mul, ← Int32.ofInt_sub, Int.tmod_def, Int.mul_comm]
theorem jx_i2l {x : Int} (hx : jx_r x) : (Int32.ofInt x).toInt64 = Int64.ofInt x := by
  have h1 := hx.1
  have h2 := hx.2
  rw [← Int64.toInt_inj, Int32.toInt_toInt64, jx_ti hx, jx_ti64 ⟨by omega, by omega⟩]
theorem jx_l2i (x : Int) : (Int64.ofInt x).toInt32 = Int32.ofInt x := by
  rw [← Int32.toInt_inj, Int64.toInt_toInt32, Int64.toInt_ofInt, Int32.toInt_ofInt]
  exact Int.bmod_bmod_of_dvd (by decide)
def jx_cmp (x y : Int) : Int := if y < x then 1 else if x = y then 0 else -1
theorem jx_cmp_ok {x y : Int} (hx : jx_r64 x) (hy : jx_r64 y) : lg_cmp (Int64.ofInt x) (Int64.ofInt y) = Int32.ofInt (jx_cmp x y) := by
  unfold lg_cmp jx_cmp
  have h1 : (Int64.ofInt x > Int64.ofInt y) ↔ y < x := by
    show Int64.ofInt y < Int64.ofInt x ↔ _
    rw [Int64.lt_iff_toInt_lt, jx_ti64 hx, jx_ti64 hy]
  have h2 : (Int64.ofInt x = Int64.ofInt y) ↔ x = y := by
    rw [← Int64.toInt_inj, jx_ti64 hx, jx_ti64 hy]
  simp only [h1, h2]
  split
  · rfl
  · split <;> rfl
theorem jx_cmp_lt {x y : Int} : (jx_cmp x y < 0) = (x < y) := by
  unfold jx_cmp
  apply propext
  split
  · omega
  · split <;> omega
theorem jx_cmp_gt {x y : Int} : (0 < jx_cmp x y) = (y < x) := by
  unfold jx_cmp
  apply propext
  split
  · omega
  · split <;> omega
theorem jx_cmp_eq {x y : Int} : (jx_cmp x y = 0) = (x = y) := by
  unfold jx_cmp
  apply propext
  split
  · omega
  · split <;> omega
theorem jx_cmp_r {x y : Int} : -1 ≤ jx_cmp x y ∧ jx_cmp x y ≤ 1 := by
  unfold jx_cmp
  split
  · omega
  · split <;> omega
theorem jx_cv_ref {t : Nat} {n z : Int} (ht : 2 ≤ t) (hz : 0 ≤ z) : jx_cv (t, n, z) = .ref z.toNat := by
  match t, ht with
  | t + 2, _ =>
    show (if z < 0 then Value.null else .ref z.toNat) = _
    rw [if_neg (by omega)]
theorem jx_u_eq (M : jx_M) (a i v : Int) : jx_u M a i v a i = v := by simp [jx_u]
theorem jx_u_j (M : jx_M) (a a' i j v : Int) (h : j ≠ i) : jx_u M a i v a' j = M a' j := by simp [jx_u, h]
theorem jx_u_a (M : jx_M) (a a' i j v : Int) (h : a' ≠ a) : jx_u M a i v a' j = M a' j := by simp [jx_u, h]
theorem jx_ld_u {k : Nat} {a i a' i' v : Int} {M : jx_M} (h : ¬ (a' = a ∧ i' = i)) : jx_ld k a' i' (jx_u M a i v) = jx_ld k a' i' M := by
  unfold jx_ld
  rw [show jx_u M a i v a' i' = M a' i' from if_neg h]
theorem jx_cat (v : jx_A) (h : v.1 ≠ 1) : (jx_cv v).category = 1 := by
  obtain ⟨t, n, z⟩ := v
  match t, h with
  | 0, _ => rfl
  | t + 2, _ =>
    show (if z < 0 then Value.null else .ref z.toNat).category = 1
    split <;> rfl
/-- one place of one cell is written -/
theorem jx_R_put {D : jx_D} {g : jx_S} {M : jx_M} {H H' : Heap} {z v : Int} {i : Nat} {cell : Cell} (h : jx_R D g M H) (hk : 10 ≤ (g.2 z).1) (hw : (g.2 z).1 ≠ 14) (hi : (i : Int) < jx_cnt (g.2 z).1 (g.2 z).2) (hs : (jx_sd (g.2 z).1 i).1 ≠ 6)
    (hcell : H[z.toNat]? = some cell) (hap : ∀ j : Nat, (j : Int) < jx_cnt (g.2 z).1 (g.2 z).2 → j ≠ i → jx_ps D (g.2 z).1 j ≠ jx_ps D (g.2 z).1 i) (hv : jx_ok1 g ((jx_sd (g.2 z).1 i).1, 0, v))
    (h1 : H'[z.toNat]? = some (cell.setSlot (jx_ps D (g.2 z).1 i) (jx_cv ((jx_sd (g.2 z).1 i).1, 0, v)))) (h2 : H'.size = H.size) (h3 : ∀ q, q ≠ z.toNat → H'[q]? = H[q]?) : jx_R D g (jx_u M z i v) H' := by
  obtain ⟨a1, a2, a3, a4⟩ := h
  obtain ⟨b1, b2, b3, cell0, c1, c2, c3, c4, c5⟩ := a4 z hk
  cases hcell.symm.trans c1
  have hzb : (D.2.2.size : Int) ≤ z := b2 hw
  refine ⟨h2.trans a1, by rw [h2]; exact a2, fun q hq => by rw [h3 q (by omega)]; exact a3 q hq, fun y hy => ?_⟩
  by_cases hyz : y = z
  · subst hyz
    refine ⟨b1, b2, b3, _, h1, c2, c3, fun hlt => ?_, fun j hj => ?_⟩
    · rw [show (cell.setSlot (jx_ps D (g.2 y).1 i) (jx_cv ((jx_sd (g.2 y).1 i).1, 0, v))).slots.size = cell.slots.size from by simp [Cell.setSlot]]
      exact c4 hlt
    · by_cases hji : j = i
      · subst hji
        have e : jx_ld (g.2 y).1 y j (jx_u M y j v) = ((jx_sd (g.2 y).1 j).1, 0, v) := by
          unfold jx_ld jx_of
          rw [if_neg hs, jx_u_eq]
        rw [e]
        refine ⟨?_, hv⟩
        rw [Cell.slots_setSlot_self _ (k2_hasslot (c5 j hj).1)]
      · have hne : ¬ (y = y ∧ (j : Int) = (i : Int)) := fun q => hji (by omega)
        rw [jx_ld_u hne]
        refine ⟨?_, (c5 j hj).2⟩
        rw [slot_ne _ _ (Ne.symm (hap j hj hji))]
        exact (c5 j hj).1
  · obtain ⟨d1, d2, d3, cell1, e1, e2, e3, e4, e5⟩ := a4 y hy
    refine ⟨d1, d2, d3, cell1, by rw [h3 _ (by omega)]; exact e1, e2, e3, e4, fun j hj => ?_⟩
    rw [jx_ld_u (fun q => hyz q.1)]
    exact e5 j hj
