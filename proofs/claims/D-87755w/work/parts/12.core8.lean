/-! THE MACHINE BY NUMBERS, 8: the call's arm; one step; a run -/
set_option maxRecDepth 100000
theorem jx_pop_spec : ∀ (n : Nat) (st acc as rest : List jx_A), jx_pop n st acc = some (as, rest) → ∃ pre, st = pre ++ rest ∧ as = pre.reverse ++ acc ∧ pre.length = n
  | 0, st, acc, as, rest, h => by
    simp [jx_pop] at h
    exact ⟨[], by simp [h.2], by simp [h.1], rfl⟩
  | n + 1, [], acc, as, rest, h => by simp [jx_pop] at h
  | n + 1, v :: st, acc, as, rest, h => by
    obtain ⟨pre, h1, h2, h3⟩ := jx_pop_spec n st (v :: acc) as rest (by simpa [jx_pop] using h)
    exact ⟨v :: pre, by simp [h1], by simp [h2], by simp [h3]⟩
theorem jx_cat_sum : ∀ st : List jx_A, ((st.map jx_cv).map fun v => v.category).sum ≤ 2 * st.length
  | [] => by simp
  | v :: st => by
    have h := jx_cat_sum st
    have h2 : (jx_cv v).category ≤ 2 := by rcases lv_cat (jx_cv v) with q | q <;> omega
    simp only [List.map_cons, List.sum_cons, List.length_cons]
    omega
/-- what the handlers of a method do -/
def jx_HK (D : jx_D) (l : Launch) (mt : jx_Mt) (hf : Nat → Int → Option Nat) : Prop := ∀ (pc : Nat) (x z : Int) (g : jx_S) (p : Program) (e : Env) (s : State) (m : MethodId) (args : Array Value) (below : List Frame) (meth : Method) (c : Code) (R : Room) (T : State) (locs : List Loc) (cells slots : Nat) (a : Array Slot) (stk : List Value),
  jx_C D l mt p s m args meth c → Stand p l e R s m args below meth c T locs cells slots → jx_xo g s T.heap (4, x, z) →
  ∃ vm' : Vm, Stand p l e R s m args below meth c (T.setVm vm') locs cells slots ∧ (match hf pc x with
    | some h => ∀ target, Steps p.tables e below ((T.setVm vm').setTop (F0 m h a [.ref z.toNat])) target → Steps p.tables e below ((T.setTop (F0 m pc a stk)).pushFrame (.throwing z.toNat)) target
    | none => Steps p.tables e below ((T.setTop (F0 m pc a stk)).pushFrame (.throwing z.toNat)) ((T.setVm vm').setFrames (.throwing z.toNat :: below)))
def jx_nh : Nat → Int → Option Nat := fun _ _ => none
theorem jx_HK_nil {D : jx_D} {l : Launch} {mt : jx_Mt} (h : mt.2.2.2.2.1 = []) : jx_HK D l mt jx_nh := by
  intro pc x z g p e s m args below meth c R T locs cells slots a stk C X _
  have ht := C.2.2.2.2.2.2.2.2.2.1
  rw [h] at ht
  have hem : c.exceptionTable.toList = [] := List.map_eq_nil_iff.mp ht
  have hfd : Finds e ((T.setTop (F0 m pc a stk)).pushFrame (.throwing z.toNat)) (F0 m pc a stk) z.toNat .none := by
    refine Finds.outside (meth := meth) (code := c) ?_ X.code (by rw [hem]; simp)
    rw [Stand.throwing_vm]
    exact X.method'
  have hAt : At T m c below := X.here
  refine ⟨T.vm, by rw [State.setVm_self]; exact X, ?_⟩
  show Steps p.tables e below ((T.setTop (F0 m pc a stk)).pushFrame (.throwing z.toNat)) ((T.setVm T.vm).setFrames (.throwing z.toNat :: below))
  refine Steps.thrownOut (g := F0 m pc a stk) hAt (meth := meth) X.method' C.2.2.2.2.1 rfl rfl hfd ?_
  rw [State.setVm_self, X.tail]
  exact Steps.refl _
theorem jx_Q_mono {D : jx_D} {g g' : jx_S} {Po : jx_Po} {kc ks : Nat} {below : List Frame} {s t : State} (hs : jx_sub g g') (h : jx_Q D (jx_sq g' Po) kc ks below s t) : jx_Q D (jx_sq g Po) kc ks below s t := by
  obtain ⟨o, h1, h2, ⟨v, g'', M, a1, ⟨a2, a3⟩, a4⟩, h4⟩ := h
  exact ⟨o, h1, h2, ⟨v, g'', M, a1, ⟨jx_sub_tr hs a2, a3⟩, a4⟩, h4⟩
section JW
variable {D : jx_D} {l : Launch} {mt : jx_Mt} {Po : jx_Po} {pc : Nat} {ls st : List jx_A} {u : Nat × Nat} {g : jx_S} {M : jx_M}
theorem jx_s_call {i : Instr} {n c1 c2 : Nat} {as rest : List jx_A} {hf : Nat → Int → Option Nat} {K : jx_K} (hK : ∀ pc ls st u g M, K pc ls st u g M → jx_V D l mt Po pc ls st u g M) (hH : jx_HK D l mt hf) (hd : decode mt.2.1 pc = .ok (i, 3)) (hp : jx_pop n st [] = some (as, rest)) (hu : u.1 + c1 ≤ mt.2.2.2.2.2.2.1 ∧ u.2 + c2 ≤ mt.2.2.2.2.2.2.2.1) (hlen : rest.length ≤ 12)
    (h : jx_CR D l mt.1 mt.2.2.2.2.2.1 i n c1 c2 as g M (jx_back hf Po K pc ls rest (u.1 + c1, u.2 + c2))) : jx_V D l mt Po pc ls st u g M := by
  intro p e s m args below meth c C H locs a hR hl hs hL hf' h1 h2
  obtain ⟨pre, hst, has, hpl⟩ := jx_pop_spec n st [] as rest hp
  rw [List.append_nil] at has
  have hpre : pre = as.reverse := by rw [has, List.reverse_reverse]
  rw [hpre] at hst
  obtain ⟨hlen', hC⟩ := h
  obtain ⟨hx, hb, hml, hrt, hlk, hown, hts, hE, hfl, htb, hnm⟩ := id C
  have hokas : jx_ok g as := fun v hv => hs v (by rw [hst]; exact List.mem_append_left _ (List.mem_reverse.mpr hv))
  have hokr : jx_ok g rest := fun v hv => hs v (by rw [hst]; exact List.mem_append_right _ hv)
  intro T hT X
  have hsum := jx_cat_sum rest
  obtain ⟨v, g', M', T', L, e1, e2, e3, e4, e5, e6, X', hgo⟩ := hC p e _ s m args below meth c T locs u.1 u.2 X hx hown hts hE hfl (by rw [hT]; exact hR) hokas (Nat.le_refl _) (Nat.le_refl _) hu.1 hu.2 (F0 m pc a (st.map jx_cv)) (rest.map jx_cv) rfl (by rw [hml]; exact hL.1) (by rw [hst]; simp) (by show 2 * 0 + _ ≤ 30; omega) (by rw [hb]; exact hd)
  have hlocs : ∀ q ∈ locs ++ L, D.2.2.size ≤ q.base := fun q hq => by
    rcases List.mem_append.mp hq with z | z
    · exact hf' q z
    · exact e6 q z
  have go : ∀ (T2 : State), T2.heap = T'.heap → Stand p l e (jx_rm mt.2.2.2.2.2.1 mt.2.2.2.2.2.2.1 mt.2.2.2.2.2.2.2.1) s m args below meth c T2 (locs ++ L) (u.1 + c1) (u.2 + c2) → ∀ (pc' : Nat) (st' : List jx_A), jx_V D l mt Po pc' ls st' (u.1 + c1, u.2 + c2) g' M' → jx_ok g' st' → ∃ t, Steps p.tables e below (T2.setTop (F0 m pc' a (st'.map jx_cv))) t ∧ jx_Q D (jx_sq g Po) mt.2.2.2.2.2.2.1 mt.2.2.2.2.2.2.2.1 below s t := by
    intro T2 hT2 X2 pc' st' hV hok'
    obtain ⟨t, q1, q2⟩ := hV p e s m args below meth c C T'.heap (locs ++ L) a e3 (jx_ok_sub e1 hl) hok' hL hlocs hu.1 hu.2 T2 hT2 X2
    exact ⟨t, q1, jx_Q_mono e1 q2⟩
  obtain ⟨t0, n0, z0⟩ := v
  rcases hgo with ⟨h4, hgo⟩ | ⟨h4, hgo⟩
  · have h4 : t0 ≠ 4 := h4
    by_cases h3 : t0 = 3
    · subst h3
      have e2 : jx_V D l mt Po (pc + 3) ls rest (u.1 + c1, u.2 + c2) g' M' := hK _ _ _ _ _ _ e2
      obtain ⟨t, q1, q2⟩ := go T' rfl X' _ _ e2 (jx_ok_sub e1 hokr)
      exact ⟨t, hgo t q1, q2⟩
    · have e2' : jx_V D l mt Po (pc + 3) ls ((t0, n0, z0) :: rest) (u.1 + c1, u.2 + c2) g' M' := by
        unfold jx_back at e2
        split at e2
        · rename_i q
          simp at q
          exact absurd q.1 h3
        · rename_i q
          simp at q
          exact absurd q.1 h4
        · exact hK _ _ _ _ _ _ e2
      obtain ⟨t, q1, q2⟩ := go T' rfl X' _ _ e2' (jx_ok_cons e4 (jx_ok_sub e1 hokr))
      refine ⟨t, hgo t ?_, q2⟩
      have eo : jx_ov (t0, n0, z0) = some (jx_cv (t0, n0, z0)) := by
        unfold jx_ov
        rw [if_neg h3]
      rw [eo]
      exact q1
  · have h4 : t0 = 4 := h4
    subst h4
    have hfd := hH pc n0 z0 g' p e s m args below meth c _ T' _ _ _ a (rest.map jx_cv) C X' e5
    have e2 : (match hf pc n0 with | some h => K h ls [jx_ex n0 z0] (u.1 + c1, u.2 + c2) g' M' | none => Po (4, n0, z0) g' M') := e2
    obtain ⟨x1, x2, cell, x3, x4, x5⟩ := e5 rfl
    obtain ⟨vm2, X2, hfd⟩ := hfd
    cases hh : hf pc n0 with
    | some h =>
      rw [hh] at e2 hfd
      have hok1 : jx_ok1 g' (jx_ex n0 z0) := by
        unfold jx_ex
        split
        · rename_i q
          have hg : g'.2 z0 = (64, 0) := x2 q
          refine ⟨fun w => (by simp at w), fun _ => ?_, fun _ => (by constructor <;> simp)⟩
          show jx_in 64 (g'.2 z0).1 ∧ (g'.2 z0).2 = 0
          rw [hg]
          exact ⟨rfl, rfl⟩
        · exact jx_ok_n
      obtain ⟨t, q1, q2⟩ := go (T'.setVm vm2) rfl X2 _ _ (hK _ _ _ _ _ _ e2) (jx_ok_cons hok1 (fun v hv => by simp at hv))
      have ecv : jx_cv (jx_ex n0 z0) = .ref z0.toNat := by
        unfold jx_ex
        split <;> exact jx_cv_ref (by omega) x1
      refine ⟨t, hgo t (hfd _ ?_), q2⟩
      rw [List.map_cons, ecv] at q1
      exact q1
    | none =>
      rw [hh] at e2 hfd
      obtain ⟨g₀, hfr⟩ := X2.frames_eq
      refine ⟨(T'.setVm vm2).setFrames (.throwing z0.toNat :: below), hgo _ hfd, .threw z0.toNat, X2.here.running, State.frames_setFrames _ (State.cur_lt_of_frames hfr), ⟨(4, n0, z0), g', M', rfl, ⟨e1, e2⟩, e3, e4, e5⟩, (X2.ends _).1, locs ++ L, ?_, hlocs⟩
      exact (X2.ends _).2.mono hu.1 hu.2
end JW
