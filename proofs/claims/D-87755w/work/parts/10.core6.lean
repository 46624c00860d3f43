/-! THE MACHINE BY NUMBERS, 6: fields and arrays -/
set_option maxRecDepth 100000
theorem jx_clF {k : Nat} {q : vw_C} (h : jx_cl k = some q) : (∀ w ∈ u_ws q.1 q.2.1 q.2.2, w ∈ lw_all) ∧ (∃ ty : Nat → FieldType, ∀ j, j < q.2.2 → parseFieldDescriptor (q.2.1 j).2.2.1 = some (ty j)) ∧ (∀ a, a < q.2.2 → ∀ b, b < q.2.2 → a ≠ b → (q.2.1 a).2.1 ≠ (q.2.1 b).2.1) := by
  unfold jx_cl at h
  split at h <;> cases h
  · exact ⟨in_X0, ⟨tyX0, tyX0_ok⟩, nmX0⟩
  · exact ⟨in_X1, ⟨tyX1, tyX1_ok⟩, nmX1⟩
  · exact ⟨in_X2, ⟨tyX2, tyX2_ok⟩, nmX2⟩
  · exact ⟨in_X3, ⟨tyX3, tyX3_ok⟩, nmX3⟩
  · exact ⟨in_X4, ⟨tyX4, tyX4_ok⟩, nmX4⟩
  · exact ⟨in_X6, ⟨tyX6, tyX6_ok⟩, nmX6⟩
  · exact ⟨in_X7, ⟨tyX7, tyX7_ok⟩, nmX7⟩
  · exact ⟨in_X8, ⟨tyX8, tyX8_ok⟩, nmX8⟩
  · exact ⟨in_X9, ⟨tyX9, tyX9_ok⟩, nmX9⟩
  · exact ⟨in_X10, ⟨tyX10, tyX10_ok⟩, nmX10⟩
  · exact ⟨in_X11, ⟨tyX11, tyX11_ok⟩, nmX11⟩
  · exact ⟨in_X12, ⟨tyX12, tyX12_ok⟩, nmX12⟩
  · exact ⟨in_X13, ⟨tyX13, tyX13_ok⟩, nmX13⟩
def jx_fty (tg bo : Nat) (d : String) : Prop := match tg, bo with
  | 0, 0 => parseFieldDescriptor d = some .int
  | 0, 1 => parseFieldDescriptor d = some .boolean
  | 1, 0 => parseFieldDescriptor d = some .long
  | 2, 0 => ∃ t, parseFieldDescriptor d = some t ∧ ((∃ n, t = .object n) ∨ ∃ q, t = .array q)
  | _, _ => True
def jx_FG (own : String) (q : jx_F) : Prop := 10 ≤ q.2.1 ∧ 0 ≤ q.2.2.1 ∧ ∀ k, jx_in q.2.1 k → 40 ≤ k ∧ ∃ c : vw_C, jx_cl (jx_bk k) = some c ∧ q.2.2.1.toNat < c.2.2 ∧
  (Cond.fieldLink own q.1 (c.2.1 q.2.2.1.toNat).1 (c.2.1 q.2.2.1.toNat).2.1 (c.2.1 q.2.2.1.toNat).2.2.1 ∈ lw_all ∨ ∃ host, Cond.fieldLinkNest own q.1 (c.2.1 q.2.2.1.toNat).1 (c.2.1 q.2.2.1.toNat).2.1 (c.2.1 q.2.2.1.toNat).2.2.1 host ∈ jx_nl) ∧
  jx_sd k q.2.2.1 = q.2.2.2.2 ∧ (q.2.2.2.1 ≠ 2 → (c.2.1 q.2.2.1.toNat).2.2.2 = false) ∧ jx_fty q.2.2.2.2.1 q.2.2.2.1 (c.2.1 q.2.2.1.toNat).2.2.1
theorem jx_lk_mem : ∀ (L : List jx_F) (x t : Nat) (r : Int × Nat × Nat × Nat × Int × Int), jx_lk L x t = some r → (x, t, r) ∈ L
  | [], x, t, r, h => by simp [jx_lk] at h
  | (i, t', r') :: L, x, t, r, h => by
    unfold jx_lk at h
    split at h
    · rename_i q
      cases h
      rw [← q.1, ← q.2]
      exact List.mem_cons_self
    · exact List.mem_cons_of_mem _ (jx_lk_mem L x t r h)
theorem jx_lc_mem : ∀ (L : List (Nat × Int)) (x : Nat) (r : Int), jx_lc L x = some r → (x, r) ∈ L
  | [], x, r, h => by simp [jx_lc] at h
  | (i, r') :: L, x, r, h => by
    unfold jx_lc at h
    split at h
    · rename_i q
      cases h
      rw [← q]
      exact List.mem_cons_self
    · exact List.mem_cons_of_mem _ (jx_lc_mem L x r h)
section JV
variable {D : jx_D} {l : Launch} {mt : jx_Mt} {Po : jx_Po} {pc : Nat} {ls st : List jx_A} {u : Nat × Nat} {g : jx_S} {M : jx_M}
theorem jx_vmk {cell : Cell} (h : cell.vm = .none) : cell.vm ≠ .unknown := by rw [h]; exact fun q => by cases q
theorem jx_vms {cell : Cell} (h : cell.vm = .none) : ∀ q, cell.vm ≠ .statics q := fun q => by rw [h]; exact fun z => by cases z
theorem jx_s_getfield {L : List jx_F} {x t : Nat} {n a : Int} {r : Int × Nat × Nat × Nat × Int × Int} (hG : ∀ q ∈ L, jx_FG mt.1 q) (hd : decode mt.2.1 pc = .ok (.getfield x, 3)) (hr : jx_lk L x t = some r)
    (h : jx_V D l mt Po (pc + 3) ls (jx_of r.2.2 a (M a r.1) :: st) u g M) : jx_V D l mt Po pc ls ((t, n, a) :: st) u g M := by
  intro p e s m args below meth c C H locs lo hR hl hs hL hf h1 h2
  obtain ⟨hx, hb, -, -, -, hown, hts, hE, -⟩ := id C
  obtain ⟨ht, hj, hk⟩ := hG _ (jx_lk_mem L x t r hr)
  dsimp only at ht hj hk
  have hok : jx_in t (g.2 a).1 ∧ (g.2 a).2 = n := (hs _ List.mem_cons_self).2.1 ht
  obtain ⟨h40, cc, hc, hlt, hw, hsd, -, -⟩ := hk _ hok.1
  obtain ⟨b1, -, -, cell, c1, c2, c3, -, c5⟩ := hR.2.2.2 a (by omega)
  obtain ⟨hin, -, -⟩ := jx_clF hc
  obtain ⟨hS, hfc, kC, hkC, hkind⟩ := hE.1 _ _ hc
  obtain ⟨cf, kf, fi, f, hi, hsl⟩ := hS _ hlt
  have hcnt : ((r.1.toNat : Nat) : Int) < jx_cnt (g.2 a).1 (g.2 a).2 := by
    unfold jx_cnt
    rw [if_neg (by omega), hc]
    show ((r.1.toNat : Nat) : Int) < ((cc.2.2 : Nat) : Int)
    have hlt : r.1.toNat < cc.2.2 := hlt
    omega
  have hj : (0 : Int) ≤ r.1 := hj
  obtain ⟨hsv, hsk⟩ := c5 r.1.toNat hcnt
  have e1 : ((r.1.toNat : Nat) : Int) = r.1 := Int.toNat_of_nonneg hj
  have e2 : jx_ld (g.2 a).1 a r.1 M = jx_of r.2.2 a (M a r.1) := by
    unfold jx_ld
    rw [show jx_sd (g.2 a).1 r.1 = r.2.2 from hsd]
  rw [e1, e2] at hsv hsk
  have e3 : jx_ps D (g.2 a).1 r.1.toNat = f.slot := by
    unfold jx_ps
    rw [if_neg (by omega)]
    exact hsl.symm
  rw [e3] at hsv
  have k0 := h p e s m args below meth c C H locs lo hR hl (jx_ok_cons hsk (jx_ok_tl hs)) hL hf h1 h2
  have ht : 10 ≤ t := ht
  rw [List.map_cons, jx_cv_ref (by omega) b1]
  rcases hw with hw | ⟨host, hw⟩
  · exact W.getf hx hb hown (hts _ hw) hi (u_facts hfc hkC (u_lays hts hin hlt) hi).1 c1 (jx_vmk c3) hsv rfl rfl hd k0
  · exact va_Wgetf hx hb hown (va_Nw.use rfl (hE.2.2.1 _ hw)) hi (u_facts hfc hkC (u_lays hts hin hlt) hi).1 c1 (jx_vmk c3) hsv rfl rfl hd k0
theorem jx_loc {D : jx_D} {locs : List Loc} {a : Int} {i : Nat} (hf : ∀ q ∈ locs, D.2.2.size ≤ q.base) (ha : (D.2.2.size : Int) ≤ a) : ∀ q ∈ locs ++ [(⟨a.toNat, i⟩ : Loc)], D.2.2.size ≤ q.base := by
  intro q hq
  rcases List.mem_append.mp hq with h | h
  · exact hf q h
  · rw [List.mem_singleton] at h
    subst h
    show D.2.2.size ≤ a.toNat
    omega
theorem jx_fits {tg bo : Nat} {d : String} {v : jx_A} (h : jx_fty tg bo d) (hv : (tg = 0 ∧ v.1 = 0 ∧ (bo = 0 ∨ (bo = 1 ∧ (v.2.2 = 0 ∨ v.2.2 = 1)))) ∨ (tg = 1 ∧ bo = 0 ∧ v.1 = 1) ∨ (tg = 2 ∧ bo = 0 ∧ jx_isr v.1 = true)) : ∃ ty, parseFieldDescriptor d = some ty ∧ narrow ty (jx_cv v) = jx_cv v ∧ fits ty (jx_cv v) = true := by
  obtain ⟨t, n, z⟩ := v
  rcases hv with ⟨rfl, q, hb⟩ | ⟨rfl, rfl, q⟩ | ⟨rfl, rfl, q⟩
  · simp at q
    subst q
    rcases hb with rfl | ⟨rfl, hz⟩
    · exact ⟨_, h, rfl, rfl⟩
    · rcases hz with hz | hz <;> simp at hz <;> subst hz <;> exact ⟨_, h, rfl, rfl⟩
  · simp at q
    subst q
    exact ⟨_, h, rfl, rfl⟩
  · obtain ⟨ty, e, hty⟩ := h
    refine ⟨ty, e, ?_⟩
    rcases jx_isr_cv q with q | ⟨y, q⟩ <;> rw [q] <;> rcases hty with ⟨n, rfl⟩ | ⟨n, rfl⟩ <;> exact ⟨rfl, rfl⟩
theorem jx_apart {s : State} {args : Array Value} {k : Nat} {c : vw_C} (hts : ∀ w ∈ lw_all, w.before args s = true) (hE : jx_En D s) (hc : jx_cl k = some c) : ∀ x y, x < c.2.2 → y < c.2.2 → x ≠ y → D.2.1 k x ≠ D.2.1 k y := by
  intro x y hx hy hne
  obtain ⟨hin, ⟨ty, hty⟩, hnm⟩ := jx_clF hc
  obtain ⟨hS, -⟩ := hE.1 k c hc
  obtain ⟨_, _, _, fa, hia, ea⟩ := hS x hx
  obtain ⟨_, _, _, fb, hib, eb⟩ := hS y hy
  rw [← ea, ← eb]
  refine u_apart (u_lays hts hin hx) (u_lays hts hin hy) hia hib ?_
  rw [(State.fieldFound?_type hia (hty x hx)).1, (State.fieldFound?_type hib (hty y hy)).1]
  exact hnm x hx y hy hne
theorem jx_ok_re {t : Nat} {n z : Int} {g : jx_S} (h : jx_ok1 g (1, n, z)) : jx_ok1 g (1, 0, z) := jx_ok_l (h.1 rfl)
theorem jx_s_putfield {L : List jx_F} {x t : Nat} {n a : Int} {v : jx_A} {r : Int × Nat × Nat × Nat × Int × Int} (hG : ∀ q ∈ L, jx_FG mt.1 q) (hd : decode mt.2.1 pc = .ok (.putfield x, 3)) (hr : jx_lk L x t = some r)
    (hv : (r.2.2.1 = 0 ∧ v.1 = 0 ∧ (r.2.1 = 0 ∨ (r.2.1 = 1 ∧ (v.2.2 = 0 ∨ v.2.2 = 1)))) ∨ (r.2.2.1 = 1 ∧ r.2.1 = 0 ∧ v.1 = 1) ∨ (r.2.2.1 = 2 ∧ r.2.1 = 0 ∧ jx_isr v.1 = true))
    (h : jx_V D l mt Po (pc + 3) ls st u g (jx_u M a r.1 v.2.2)) : jx_V D l mt Po pc ls (v :: (t, n, a) :: st) u g M := by
  intro p e s m args below meth c C H locs lo hR hl hs hL hf h1 h2
  obtain ⟨hx, hb, -, -, -, hown, hts, hE, -⟩ := id C
  obtain ⟨ht, hj, hk⟩ := hG _ (jx_lk_mem L x t r hr)
  dsimp only at ht hj hk
  have hok : jx_in t (g.2 a).1 ∧ (g.2 a).2 = n := (hs _ (List.mem_cons_of_mem _ List.mem_cons_self)).2.1 ht
  obtain ⟨h40, cc, hc, hlt, hw, hsd, hfin, hty⟩ := hk _ hok.1
  have hk10 : 10 ≤ (g.2 a).1 := by omega
  obtain ⟨b1, b2, -, cell, c1, c2, c3, -, c5⟩ := hR.2.2.2 a hk10
  have h14 : (g.2 a).1 ≠ 14 := by omega
  obtain ⟨hin, -, -⟩ := jx_clF hc
  obtain ⟨hS, hfc, kC, hkC, hkind⟩ := hE.1 _ _ hc
  obtain ⟨cf, kf, fi, f, hi, hsl⟩ := hS _ hlt
  have hj : (0 : Int) ≤ r.1 := hj
  have hlt' : r.1.toNat < cc.2.2 := hlt
  have e1 : ((r.1.toNat : Nat) : Int) = r.1 := Int.toNat_of_nonneg hj
  have hcntE : jx_cnt (g.2 a).1 (g.2 a).2 = ((cc.2.2 : Nat) : Int) := by
    unfold jx_cnt
    rw [if_neg (by omega), hc]
  have hcnt : ((r.1.toNat : Nat) : Int) < jx_cnt (g.2 a).1 (g.2 a).2 := by rw [hcntE]; omega
  have e3 : jx_ps D (g.2 a).1 r.1.toNat = f.slot := by
    unfold jx_ps
    rw [if_neg (by omega)]
    exact hsl.symm
  have hsd' : jx_sd (g.2 a).1 r.1 = r.2.2 := hsd
  have hb2 : r.2.1 ≠ 2 := by rcases hv with ⟨_, _, q | ⟨q, _⟩⟩ | ⟨_, q, _⟩ | ⟨_, q, _⟩ <;> omega
  have htg6 : r.2.2.1 ≠ 6 := by rcases hv with ⟨q, _⟩ | ⟨q, _⟩ | ⟨q, _⟩ <;> omega
  obtain ⟨ty, hd1, hn1, hf1⟩ := jx_fits (v := v) hty hv
  have hlay := hts _ (hin _ (u_in_lay hlt))
  unfold u_lay at hlay
  rw [if_neg (by rw [hfin hb2]; decide)] at hlay
  have hst := (u_facts hfc hkC (u_lays hts hin hlt) hi).1
  have h6 := u_store hfc hkC hkind hlay hi hd1 hn1 hf1
  have hcv : jx_cv v = jx_cv (r.2.2.1, 0, v.2.2) := by
    obtain ⟨vt, vn, vz⟩ := v
    rcases hv with ⟨q, q2, -⟩ | ⟨q, -, q2⟩ | ⟨q, -, q2⟩
    · simp at q2; subst q2; rw [q]; rfl
    · simp at q2; subst q2; rw [q]; rfl
    · rw [q]
      have q3 := jx_isr_spec q2
      simp at q3
      have : 2 ≤ vt := by omega
      match vt, this with
      | vt + 2, _ => rfl
  have hokv : jx_ok1 g (r.2.2.1, 0, v.2.2) := by
    rcases hv with ⟨q, -⟩ | ⟨q, -, q2⟩ | ⟨q, -⟩
    · rw [q]; exact jx_ok_i
    · rw [q]; exact jx_ok_l ((hs _ List.mem_cons_self).1 q2)
    · rw [q]; exact jx_ok_n
  have hap : ∀ j : Nat, (j : Int) < jx_cnt (g.2 a).1 (g.2 a).2 → j ≠ r.1.toNat → jx_ps D (g.2 a).1 j ≠ jx_ps D (g.2 a).1 r.1.toNat := by
    intro j hj hne
    unfold jx_ps
    rw [if_neg (by omega), if_neg (by omega)]
    rw [hcntE] at hj
    exact jx_apart hts hE hc j _ (by omega) hlt hne
  have hslot : f.slot < cell.slots.size := by
    have := (c5 _ hcnt).1
    rw [e3] at this
    exact k2_hasslot this
  have kk : ∀ H' : Heap, H'[a.toNat]? = some (cell.setSlot f.slot (jx_cv v)) → H'.size = H.size → (∀ q, q ≠ a.toNat → H'[q]? = H[q]?) → W p l e (jx_rm mt.2.2.2.2.2.1 mt.2.2.2.2.2.2.1 mt.2.2.2.2.2.2.2.1) s m args below meth c H' (locs ++ [⟨a.toNat, f.slot⟩]) u.1 u.2 (jx_Q D (jx_sq g Po) mt.2.2.2.2.2.2.1 mt.2.2.2.2.2.2.2.1 below s) (F0 m (pc + 3) lo (st.map jx_cv)) := by
    intro H' q1 q2 q3
    refine h p e s m args below meth c C H' _ lo ?_ hl (jx_ok_tl (jx_ok_tl hs)) hL (jx_loc hf (b2 h14)) h1 h2
    have := jx_R_put (v := v.2.2) (i := r.1.toNat) hR hk10 h14 hcnt (by rw [e1, hsd']; exact htg6) c1 hap (by rw [e1, hsd']; exact hokv) (by rw [e1, hsd', e3, ← hcv]; exact q1) q2 q3
    rwa [e1] at this
  have ht : 10 ≤ t := ht
  rw [List.map_cons, List.map_cons, jx_cv_ref (show 2 ≤ t by omega) b1]
  rcases hw with hw | ⟨host, hw⟩
  · exact W.putK hx hb (f := f) ⟨hown, hts _ hw, ⟨_, _, _, hi⟩, hst⟩ (by rw [c2]; exact h6) c1 c3 hslot rfl rfl hd kk
  · exact va_WputK hx hb hown (va_Nw.use rfl (hE.2.2.1 _ hw)) hi hst (by rw [c2]; exact h6) c1 c3 hslot rfl rfl hd kk
/-- an array cell -/
theorem jx_arr {s : State} {H : Heap} {k : Nat} {n a i : Int} {ty : FieldType} (hE : jx_En D s) (hR : jx_R D g M H) (hk : g.2 a = (k, n)) (hk1 : 10 ≤ k) (hk2 : k < 40) (hty : jx_aty (jx_bk k) = some ty) (h0 : 0 ≤ i) (h1 : i < n) :
    0 ≤ a ∧ (k ≠ 14 → (D.2.2.size : Int) ≤ a) ∧ ∃ cell : Cell, H[a.toNat]? = some cell ∧ s.isArrayOf cell ty ∧ cell.vm = .none ∧ (cell.slots.size : Int) = n ∧ ¬ (Int32.ofInt i < 0 ∨ cell.slots.size ≤ (Int32.ofInt i).toNatClampNeg) ∧ (Int32.ofInt i).toNatClampNeg = i.toNat ∧
      cell.slots[(Int32.ofInt i).toNatClampNeg]? = some (jx_cv (jx_ld k a i M)) ∧ jx_ok1 g (jx_ld k a i M) := by
  obtain ⟨b1, b2, b3, cell, c1, c2, c3, c4, c5⟩ := hR.2.2.2 a (by rw [hk]; exact hk1)
  rw [hk] at b2 b3 c2 c4 c5
  obtain ⟨-, kA, comp, d1, d2, -⟩ := hE.2.1 _ _ hty
  have hsz := c4 hk2
  have b3 : (0 ≤ n ∧ n ≤ 2147483647) := b3
  have hsz : (cell.slots.size : Int) = n := hsz
  have hcn := jx_cn h0 (by omega)
  have e1 : ((i.toNat : Nat) : Int) = i := Int.toNat_of_nonneg h0
  obtain ⟨f1, f2⟩ := c5 i.toNat (by
    show ((i.toNat : Nat) : Int) < jx_cnt k n
    unfold jx_cnt
    rw [if_pos hk2]
    omega)
  have e2 : jx_ps D k i.toNat = i.toNat := by
    unfold jx_ps
    rw [if_pos hk2]
  rw [e1] at f1 f2
  have f1 : cell.slots[jx_ps D k i.toNat]? = some (jx_cv (jx_ld k a i M)) := f1
  rw [e2] at f1
  refine ⟨b1, b2, cell, c1, ⟨jx_vms c3, kA, (by rw [c2]; exact d1), comp, d2⟩, c3, hsz, jx_ib h0 (by omega) (by omega), hcn, by rw [hcn]; exact f1, f2⟩
theorem jx_okk {k : Nat} {n a : Int} (h : jx_ok1 g (k, n, a)) (h1 : 10 ≤ k) (h2 : k < 80) : g.2 a = (k, n) := by
  obtain ⟨q1, q2⟩ := h.2.1 h1
  have q1 : jx_in k (g.2 a).1 := q1
  unfold jx_in at q1
  rw [if_neg (by omega), if_neg (by omega)] at q1
  exact Prod.ext q1 q2
theorem jx_s_iaload {k : Nat} {n a i q : Int} (hk : k = 10 ∨ k = 14) (hd : decode mt.2.1 pc = .ok (.iaload, 1)) (hi : 0 ≤ i ∧ i < n) (h : jx_V D l mt Po (pc + 1) ls ((0, 0, M a i) :: st) u g M) : jx_V D l mt Po pc ls ((0, q, i) :: (k, n, a) :: st) u g M := by
  intro p e s m args below meth c C H locs lo hR hl hs hL hf h1 h2
  have hg := jx_okk (hs _ (List.mem_cons_of_mem _ List.mem_cons_self)) (by omega) (by omega)
  have hE := C.2.2.2.2.2.2.2.1
  obtain ⟨a1, -, cell, a2, a3, a4, -, a5, -, a6, -⟩ := jx_arr (ty := .int) hE hR hg (by omega) (by omega) (by rcases hk with rfl | rfl <;> rfl) hi.1 hi.2
  have e0 : jx_ld k a i M = (0, 0, M a i) := by rcases hk with rfl | rfl <;> rfl
  rw [e0] at a6
  rw [List.map_cons, List.map_cons, jx_cv_ref (show 2 ≤ k by omega) a1]
  exact W.iald C.1 C.2.1 a2 a3 (jx_vmk a4) a5 a6 rfl rfl hd (h p e s m args below meth c C H locs lo hR hl (jx_ok_cons jx_ok_i (jx_ok_tl (jx_ok_tl hs))) hL hf h1 h2)
theorem jx_s_laload {n a i q : Int} (hd : decode mt.2.1 pc = .ok (.laload, 1)) (hi : 0 ≤ i ∧ i < n) (h : jx_V D l mt Po (pc + 1) ls ((1, 0, M a i) :: st) u g M) : jx_V D l mt Po pc ls ((0, q, i) :: (11, n, a) :: st) u g M := by
  intro p e s m args below meth c C H locs lo hR hl hs hL hf h1 h2
  have hg := jx_okk (hs _ (List.mem_cons_of_mem _ List.mem_cons_self)) (by omega) (by omega)
  have hE := C.2.2.2.2.2.2.2.1
  obtain ⟨a1, -, cell, a2, a3, a4, -, a5, -, a6, a7⟩ := jx_arr (ty := .long) hE hR hg (by omega) (by omega) rfl hi.1 hi.2
  rw [List.map_cons, List.map_cons, jx_cv_ref (show 2 ≤ 11 by omega) a1]
  exact W.lald C.1 C.2.1 a2 a3 (jx_vmk a4) a5 a6 rfl rfl hd (h p e s m args below meth c C H locs lo hR hl (jx_ok_cons a7 (jx_ok_tl (jx_ok_tl hs))) hL hf h1 h2)
theorem jx_s_baload {n a i q : Int} (hd : decode mt.2.1 pc = .ok (.baload, 1)) (hi : 0 ≤ i ∧ i < n) (h : jx_V D l mt Po (pc + 1) ls ((0, 0, M a i) :: st) u g M) : jx_V D l mt Po pc ls ((0, q, i) :: (12, n, a) :: st) u g M := by
  intro p e s m args below meth c C H locs lo hR hl hs hL hf h1 h2
  have hg := jx_okk (hs _ (List.mem_cons_of_mem _ List.mem_cons_self)) (by omega) (by omega)
  have hE := C.2.2.2.2.2.2.2.1
  obtain ⟨a1, -, cell, a2, a3, a4, -, a5, -, a6, a7⟩ := jx_arr (ty := .boolean) hE hR hg (by omega) (by omega) rfl hi.1 hi.2
  rw [List.map_cons, List.map_cons, jx_cv_ref (show 2 ≤ 12 by omega) a1]
  exact W.zald C.1 C.2.1 a2 a3 (jx_vmk a4) a5 a6 rfl rfl hd (h p e s m args below meth c C H locs lo hR hl (jx_ok_cons a7 (jx_ok_tl (jx_ok_tl hs))) hL hf h1 h2)
theorem jx_s_aald {k : Nat} {n a i q : Int} {v : jx_A} {ty : FieldType} (hk1 : 20 ≤ k) (hk2 : k < 40) (hty : jx_aty (jx_bk k) = some ty) (hr : ty.isReference = true) (hd : decode mt.2.1 pc = .ok (.aaload, 1)) (hi : 0 ≤ i ∧ i < n) (hv : jx_cv (jx_ld k a i M) = jx_cv v) (hok : jx_ok1 g (jx_ld k a i M) → jx_ok1 g v)
    (h : jx_V D l mt Po (pc + 1) ls (v :: st) u g M) : jx_V D l mt Po pc ls ((0, q, i) :: (k, n, a) :: st) u g M := by
  intro p e s m args below meth c C H locs lo hR hl hs hL hf h1 h2
  have hg := jx_okk (hs _ (List.mem_cons_of_mem _ List.mem_cons_self)) (by omega) (by omega)
  have hE := C.2.2.2.2.2.2.2.1
  obtain ⟨a1, -, cell, a2, a3, a4, -, a5, -, a6, a7⟩ := jx_arr hE hR hg (by omega) (by omega) hty hi.1 hi.2
  rw [List.map_cons, List.map_cons, jx_cv_ref (show 2 ≤ k by omega) a1]
  rw [hv] at a6
  exact W.aald C.1 C.2.1 a2 a3 hr (jx_vmk a4) a5 a6 rfl rfl hd (h p e s m args below meth c C H locs lo hR hl (jx_ok_cons (hok a7) (jx_ok_tl (jx_ok_tl hs))) hL hf h1 h2)
theorem jx_s_aaload {k : Nat} {n a i q : Int} (hd : decode mt.2.1 pc = .ok (.aaload, 1)) (hi : 0 ≤ i ∧ i < n) (h : jx_al k i a g M fun v => jx_V D l mt Po (pc + 1) ls (v :: st) u g M) : jx_V D l mt Po pc ls ((0, q, i) :: (k, n, a) :: st) u g M := by
  unfold jx_al at h
  split at h
  · refine jx_s_aald (by omega) (by omega) rfl rfl hd hi ?_ ?_ h.2
    · show jx_cv (jx_of (if i ≤ 0 then _ else _) a _) = _
      rw [if_neg (by omega)]
      rfl
    · intro z
      have z : jx_ok1 g (jx_of (if i ≤ 0 then _ else _) a _) := z
      rw [if_neg (by omega)] at z
      exact z
  · exact jx_s_aald (by omega) (by omega) rfl rfl hd hi rfl (fun z => z) h
  · obtain ⟨⟨z1, z2, z3⟩, h⟩ := h
    exact jx_s_aald (v := (80, 0, M a i)) (by omega) (by omega) rfl rfl hd hi rfl (fun _ => ⟨fun z => (by simp at z), fun _ => ⟨⟨z1, z2⟩, z3⟩, fun _ => (by constructor <;> simp)⟩) h
  · exact jx_s_aald (by omega) (by omega) rfl rfl hd hi rfl (fun z => z) h
  · exact jx_s_aald (by omega) (by omega) rfl rfl hd hi rfl (fun z => z) h
  · exact jx_s_aald (by omega) (by omega) rfl rfl hd hi rfl (fun z => z) h
  · exact jx_s_aald (by omega) (by omega) rfl rfl hd hi rfl (fun z => z) h
  · exact jx_s_aald (by omega) (by omega) rfl rfl hd hi rfl (fun z => z) h
  · exact jx_s_aald (by omega) (by omega) rfl rfl hd hi rfl (fun z => z) h
  · exact jx_s_aald (by omega) (by omega) rfl rfl hd hi rfl (fun z => z) h
  · exact h.elim
theorem jx_R_arr {H H' : Heap} {k : Nat} {n a i v : Int} {cell : Cell} (hR : jx_R D g M H) (hk : g.2 a = (k, n)) (hk1 : 10 ≤ k) (hk2 : k < 40) (h14 : k ≠ 14) (h0 : 0 ≤ i) (hi : i < n) (hs : (jx_sd k i).1 ≠ 6) (hcell : H[a.toNat]? = some cell) (hv : jx_ok1 g ((jx_sd k i).1, 0, v))
    (q1 : H'[a.toNat]? = some (cell.setSlot (Int32.ofInt i).toNatClampNeg (jx_cv ((jx_sd k i).1, 0, v)))) (q2 : H'.size = H.size) (q3 : ∀ q, q ≠ a.toNat → H'[q]? = H[q]?) (hn : n ≤ 2147483647) : jx_R D g (jx_u M a i v) H' := by
  have e1 : ((i.toNat : Nat) : Int) = i := Int.toNat_of_nonneg h0
  have hcn := jx_cn h0 (by omega)
  have ep : ∀ j, jx_ps D k j = j := fun j => by
    unfold jx_ps
    rw [if_pos hk2]
  have ec : jx_cnt k n = n := by
    unfold jx_cnt
    rw [if_pos hk2]
  have := jx_R_put (z := a) (v := v) (i := i.toNat) (cell := cell) hR (by rw [hk]; exact hk1) (by rw [hk]; exact h14) (by rw [hk]; show _ < jx_cnt k n; rw [ec, e1]; exact hi) (by rw [hk, e1]; exact hs) hcell
    (fun j _ hne => by rw [hk]; show jx_ps D k j ≠ jx_ps D k i.toNat; rw [ep, ep]; exact hne) (by rw [hk, e1]; exact hv) (by rw [hk, e1]; show H'[a.toNat]? = some (cell.setSlot (jx_ps D k i.toNat) _); rw [ep, ← hcn]; exact q1) q2 q3
  rwa [e1] at this
theorem jx_s_iastore {n a i v q q' : Int} (hd : decode mt.2.1 pc = .ok (.iastore, 1)) (hi : 0 ≤ i ∧ i < n) (h : jx_V D l mt Po (pc + 1) ls st u g (jx_u M a i v)) : jx_V D l mt Po pc ls ((0, q, v) :: (0, q', i) :: (10, n, a) :: st) u g M := by
  intro p e s m args below meth c C H locs lo hR hl hs hL hf h1 h2
  have hg := jx_okk (hs _ (List.mem_cons_of_mem _ (List.mem_cons_of_mem _ List.mem_cons_self))) (by omega) (by omega)
  have hE := C.2.2.2.2.2.2.2.1
  obtain ⟨a1, a0, cell, a2, a3, a4, asz, a5, a8, a6, a7⟩ := jx_arr (ty := .int) hE hR hg (by omega) (by omega) rfl hi.1 hi.2
  have hn : n ≤ 2147483647 := by have := (hR.2.2.2 a (by rw [hg]; show 10 ≤ 10; decide)).2.2.1.2; rw [hg] at this; exact this
  rw [List.map_cons, List.map_cons, List.map_cons, jx_cv_ref (show 2 ≤ 10 by omega) a1]
  refine W.iast C.1 C.2.1 a2 a3 (jx_vmk a4) a5 rfl rfl hd fun H' q1 q2 q3 => ?_
  exact h p e s m args below meth c C H' _ lo (jx_R_arr hR hg (by omega) (by omega) (by omega) hi.1 hi.2 (show (0 : Nat) ≠ 6 by decide) a2 jx_ok_i q1 q2 q3 hn) hl (jx_ok_tl (jx_ok_tl (jx_ok_tl hs))) hL (jx_loc hf (a0 (by omega))) h1 h2
theorem jx_s_bastore {n a i v q q' : Int} (hd : decode mt.2.1 pc = .ok (.bastore, 1)) (hi : 0 ≤ i ∧ i < n) (hz : v = 0 ∨ v = 1) (h : jx_V D l mt Po (pc + 1) ls st u g (jx_u M a i v)) : jx_V D l mt Po pc ls ((0, q, v) :: (0, q', i) :: (12, n, a) :: st) u g M := by
  intro p e s m args below meth c C H locs lo hR hl hs hL hf h1 h2
  have hg := jx_okk (hs _ (List.mem_cons_of_mem _ (List.mem_cons_of_mem _ List.mem_cons_self))) (by omega) (by omega)
  have hE := C.2.2.2.2.2.2.2.1
  obtain ⟨a1, a0, cell, a2, a3, a4, asz, a5, a8, a6, a7⟩ := jx_arr (ty := .boolean) hE hR hg (by omega) (by omega) rfl hi.1 hi.2
  have hn : n ≤ 2147483647 := by have := (hR.2.2.2 a (by rw [hg]; show 10 ≤ 12; decide)).2.2.1.2; rw [hg] at this; exact this
  rw [List.map_cons, List.map_cons, List.map_cons, jx_cv_ref (show 2 ≤ 12 by omega) a1]
  refine W.zast C.1 C.2.1 a2 a3 (jx_vmk a4) a5 rfl rfl hd fun H' q1 q2 q3 => ?_
  have en : narrow .boolean (.int (Int32.ofInt v)) = .int (Int32.ofInt v) := by rcases hz with rfl | rfl <;> rfl
  rw [en] at q1
  exact h p e s m args below meth c C H' _ lo (jx_R_arr hR hg (by omega) (by omega) (by omega) hi.1 hi.2 (show (0 : Nat) ≠ 6 by decide) a2 jx_ok_i q1 q2 q3 hn) hl (jx_ok_tl (jx_ok_tl (jx_ok_tl hs))) hL (jx_loc hf (a0 (by omega))) h1 h2
theorem jx_s_lastore {n a i v q q' : Int} (hd : decode mt.2.1 pc = .ok (.lastore, 1)) (hi : 0 ≤ i ∧ i < n) (h : jx_V D l mt Po (pc + 1) ls st u g (jx_u M a i v)) : jx_V D l mt Po pc ls ((1, q, v) :: (0, q', i) :: (11, n, a) :: st) u g M := by
  intro p e s m args below meth c C H locs lo hR hl hs hL hf h1 h2
  have hg := jx_okk (hs _ (List.mem_cons_of_mem _ (List.mem_cons_of_mem _ List.mem_cons_self))) (by omega) (by omega)
  have hE := C.2.2.2.2.2.2.2.1
  obtain ⟨a1, a0, cell, a2, a3, a4, asz, a5, a8, a6, a7⟩ := jx_arr (ty := .long) hE hR hg (by omega) (by omega) rfl hi.1 hi.2
  have hn : n ≤ 2147483647 := by have := (hR.2.2.2 a (by rw [hg]; show 10 ≤ 11; decide)).2.2.1.2; rw [hg] at this; exact this
  rw [List.map_cons, List.map_cons, List.map_cons, jx_cv_ref (show 2 ≤ 11 by omega) a1]
  refine W.last C.1 C.2.1 a2 a3 (jx_vmk a4) a5 rfl rfl hd fun H' q1 q2 q3 => ?_
  exact h p e s m args below meth c C H' _ lo (jx_R_arr hR hg (by omega) (by omega) (by omega) hi.1 hi.2 (show (1 : Nat) ≠ 6 by decide) a2 (jx_ok_l ((hs _ List.mem_cons_self).1 rfl)) q1 q2 q3 hn) hl (jx_ok_tl (jx_ok_tl (jx_ok_tl hs))) hL (jx_loc hf (a0 (by omega))) h1 h2
theorem jx_s_alen {k : Nat} {n a : Int} {ty : FieldType} (hk : 10 ≤ k) (hk2 : k < 40) (hty : jx_aty (jx_bk k) = some ty) (hd : decode mt.2.1 pc = .ok (.arraylength, 1)) (h : jx_V D l mt Po (pc + 1) ls ((0, 0, n) :: st) u g M) : jx_V D l mt Po pc ls ((k, n, a) :: st) u g M := by
  intro p e s m args below meth c C H locs lo hR hl hs hL hf h1 h2
  have hg := jx_okk (hs _ List.mem_cons_self) (by omega) (by omega)
  have hE := C.2.2.2.2.2.2.2.1
  obtain ⟨b1, b2, b3, cell, c1, c2, c3, c4, c5⟩ := hR.2.2.2 a (by rw [hg]; exact hk)
  rw [hg] at b3 c2 c4
  obtain ⟨-, kA, comp, d1, d2, -⟩ := hE.2.1 _ _ hty
  have hsz : (cell.slots.size : Int) = n := c4 hk2
  rw [List.map_cons, jx_cv_ref (show 2 ≤ k by omega) b1]
  refine W.alen (n := Int32.ofInt n) C.1 C.2.1 c1 ⟨jx_vms c3, kA, (by rw [c2]; exact d1), comp, d2⟩ ?_ rfl rfl hd (h p e s m args below meth c C H locs lo hR hl (jx_ok_cons jx_ok_i (jx_ok_tl hs)) hL hf h1 h2)
  rw [← hsz]
  rfl
theorem jx_s_ldc2 {x : Nat} {v : Int} (hd : decode mt.2.1 pc = .ok (.ldc2_w x, 3)) (hw : Cond.constantLong mt.1 x (Int64.ofInt v) ∈ lw_all) (hv : jx_r64 v) (h : jx_V D l mt Po (pc + 3) ls ((1, 0, v) :: st) u g M) : jx_V D l mt Po pc ls st u g M := by
  intro p e s m args below meth c C H locs lo hR hl hs hL hf h1 h2
  obtain ⟨hx, hb, -, -, -, hown, hts, -⟩ := id C
  exact W.ldc2 hx hb hown (hts _ hw) rfl hd (h p e s m args below meth c C H locs lo hR hl (jx_ok_cons (jx_ok_l hv) hs) hL hf h1 h2)
theorem jx_s_ldc {x : Nat} {v : Int} (hd : decode mt.2.1 pc = .ok (.ldc x, 2)) (hw : Cond.constant mt.1 x (Int32.ofInt v) ∈ lw_all) (h : jx_V D l mt Po (pc + 2) ls ((0, 0, v) :: st) u g M) : jx_V D l mt Po pc ls st u g M := by
  intro p e s m args below meth c C H locs lo hR hl hs hL hf h1 h2
  obtain ⟨hx, hb, -, -, -, hown, hts, -⟩ := id C
  exact W.ldc hx hb hown (hts _ hw) rfl hd (h p e s m args below meth c C H locs lo hR hl (jx_ok_cons jx_ok_i hs) hL hf h1 h2)
end JV
