/-! THE MACHINE BY NUMBERS, 9: one instruction is sound; a run; a method's contract -/
set_option maxRecDepth 100000
theorem jx_ri_el {st : List jx_A} {k : Int → List jx_A → Prop} (h : jx_ri st k) : ∃ n z st', st = (0, n, z) :: st' ∧ k z st' := by
  unfold jx_ri at h
  split at h
  · exact ⟨_, _, _, rfl, h⟩
  · exact h.elim
theorem jx_rl_el {st : List jx_A} {k : Int → List jx_A → Prop} (h : jx_rl st k) : ∃ n z st', st = (1, n, z) :: st' ∧ k z st' := by
  unfold jx_rl at h
  split at h
  · exact ⟨_, _, _, rfl, h⟩
  · exact h.elim
theorem jx_gf_el {q : Option (Int × Nat × Nat × Nat × Int × Int)} {a : Int} {M : jx_M} {k : jx_A → Prop} (h : jx_gf q a M k) : ∃ r, q = some r ∧ k (jx_of r.2.2 a (M a r.1)) := by
  unfold jx_gf at h
  split at h
  · exact ⟨_, rfl, h⟩
  · exact ⟨_, rfl, h⟩
  · exact ⟨_, rfl, h⟩
  · exact ⟨_, rfl, h⟩
  · exact h.elim
theorem jx_pf_el {q : Option (Int × Nat × Nat × Nat × Int × Int)} {v : jx_A} {a : Int} {M : jx_M} {k : jx_M → Prop} (h : jx_pf q v a M k) : ∃ r, q = some r ∧
    ((r.2.2.1 = 0 ∧ v.1 = 0 ∧ (r.2.1 = 0 ∨ (r.2.1 = 1 ∧ (v.2.2 = 0 ∨ v.2.2 = 1)))) ∨ (r.2.2.1 = 1 ∧ r.2.1 = 0 ∧ v.1 = 1) ∨ (r.2.2.1 = 2 ∧ r.2.1 = 0 ∧ jx_isr v.1 = true)) ∧ k (jx_u M a r.1 v.2.2) := by
  unfold jx_pf at h
  split at h
  · exact ⟨_, rfl, Or.inl ⟨rfl, rfl, Or.inl rfl⟩, h⟩
  · exact ⟨_, rfl, Or.inl ⟨rfl, rfl, Or.inr ⟨rfl, h.1⟩⟩, h.2⟩
  · exact ⟨_, rfl, Or.inr (Or.inl ⟨rfl, rfl, rfl⟩), h⟩
  · split at h
    · rename_i q
      exact ⟨_, rfl, Or.inr (Or.inr ⟨rfl, rfl, q⟩), h⟩
    · exact h.elim
  · exact h.elim
def jx_CsOK (D : jx_D) (l : Launch) (own : String) (d : Nat) (cs : jx_Cs) : Prop := ∀ q ∈ cs, jx_CS D l own d (jx_op q.1) q.2.1 q.2.2.1 q.2.2.2.1 q.2.2.2.2
theorem jx_ck_mem : ∀ (cs : jx_Cs) (x : Nat) (r : Nat × Nat × Nat × jx_Sp), jx_ck cs x = some r → (x, r) ∈ cs
  | [], x, r, h => by simp [jx_ck] at h
  | (i, r') :: cs, x, r, h => by
    unfold jx_ck at h
    split at h
    · rename_i q
      cases h
      rw [← q]
      exact List.mem_cons_self
    · exact List.mem_cons_of_mem _ (jx_ck_mem cs x r h)
/-- a class's tables are right -/
def jx_OK (o : jx_O) : Prop := (∀ q ∈ o.2.1, jx_FG o.1 q) ∧ (∀ q ∈ o.2.2.1, Cond.constant o.1 q.1 (Int32.ofInt q.2) ∈ lw_all) ∧ (∀ q ∈ o.2.2.2, Cond.constantLong o.1 q.1 (Int64.ofInt q.2) ∈ lw_all)
section JY
variable {D : jx_D} {l : Launch} {o : jx_O} {cc : ByteArray} {nL rc : Nat} {hh : List (Nat × Nat × Nat × Nat)} {d kc ks : Nat} {nm : String} {Po : jx_Po} {pc : Nat} {ls st : List jx_A} {u : Nat × Nat} {g : jx_S} {M : jx_M} {cs : jx_Cs} {hf : Nat → Int → Option Nat}
theorem jx_call_el {K : jx_K} {q : Option (Nat × Nat × Nat × jx_Sp)} (h : jx_call hf kc ks Po K pc ls st u g M q) : ∃ n c1 c2 S as rest, q = some (n, c1, c2, S) ∧ jx_pop n st [] = some (as, rest) ∧ (u.1 + c1 ≤ kc ∧ u.2 + c2 ≤ ks) ∧ rest.length ≤ 12 ∧ S as g M (jx_back hf Po K pc ls rest (u.1 + c1, u.2 + c2)) := by
  unfold jx_call at h
  split at h
  · split at h
    · rename_i q
      exact ⟨_, _, _, _, _, _, rfl, q, h.1, h.2.1, h.2.2⟩
    · exact h.elim
  · exact h.elim
theorem jx_tgt {off : Int} (h : 0 ≤ (pc : Int) + off) : (pc : Int) + off = (jx_tg pc off : Nat) := (Int.toNat_of_nonneg h).symm
theorem jx_al_mono {k : Nat} {i a : Int} {f f' : jx_A → Prop} (hm : ∀ v, f v → f' v) (h : jx_al k i a g M f) : jx_al k i a g M f' := by
  unfold jx_al at h ⊢
  split at h
  · exact ⟨h.1, hm _ h.2⟩
  · exact hm _ h
  · exact ⟨h.1, hm _ h.2⟩
  · exact hm _ h
  · exact hm _ h
  · exact hm _ h
  · exact hm _ h
  · exact hm _ h
  · exact hm _ h
  · exact hm _ h
  · exact h.elim
set_option maxHeartbeats 4000000 in
theorem jx_step {K : jx_K} (hK : ∀ pc ls st u g M, K pc ls st u g M → jx_V D l (o.1, cc, nL, rc, hh, d, kc, ks, nm) Po pc ls st u g M) (hO : jx_OK o) (hC : jx_CsOK D l o.1 d cs) (hH : jx_HK D l (o.1, cc, nL, rc, hh, d, kc, ks, nm) hf) {i : Instr} {len : Nat} (hd : decode cc pc = .ok (i, len))
    (h : jx_wI o cs hf rc kc ks Po K i len pc ls st u g M) : jx_V D l (o.1, cc, nL, rc, hh, d, kc, ks, nm) Po pc ls st u g M := by
  unfold jx_wI at h
  split at h
  · exact jx_s_iconst hd (hK _ _ _ _ _ _ h)
  · exact jx_s_bipush hd h.1 (hK _ _ _ _ _ _ h.2)
  · exact jx_s_sipush hd h.1 (hK _ _ _ _ _ _ h.2)
  · exact jx_s_lconst hd (hK _ _ _ _ _ _ h)
  · exact jx_s_null hd (hK _ _ _ _ _ _ h)
  · split at h
    · rename_i q
      exact jx_s_ldc hd (hO.2.1 _ (jx_lc_mem _ _ _ q)) (hK _ _ _ _ _ _ h)
    · exact h.elim
  · split at h
    · rename_i q
      exact jx_s_ldc2 hd (hO.2.2 _ (jx_lc_mem _ _ _ q)) h.1 (hK _ _ _ _ _ _ h.2)
    · exact h.elim
  · obtain ⟨n, z, st', e, h⟩ := jx_ri_el h
    exact jx_s_iload hd (List.cons.inj e).1 (hK _ _ _ _ _ _ h)
  · obtain ⟨n, z, st', e, h⟩ := jx_ri_el h
    exact jx_s_iload_n hd (List.cons.inj e).1 (hK _ _ _ _ _ _ h)
  · obtain ⟨n, z, st', e, h⟩ := jx_rl_el h
    exact jx_s_lload hd (List.cons.inj e).1 (hK _ _ _ _ _ _ h)
  · obtain ⟨n, z, st', e, h⟩ := jx_rl_el h
    exact jx_s_lload_n hd (List.cons.inj e).1 (hK _ _ _ _ _ _ h)
  · split at h
    · rename_i q
      exact jx_s_aload hd q (hK _ _ _ _ _ _ h)
    · exact h.elim
  · split at h
    · rename_i q
      exact jx_s_aload_n hd q (hK _ _ _ _ _ _ h)
    · exact h.elim
  · split at h
    · rename_i q
      obtain ⟨n, z, st', rfl, h1⟩ := jx_ri_el h
      exact jx_s_istore hd q (hK _ _ _ _ _ _ h1)
    · exact h.elim
  · split at h
    · rename_i q
      obtain ⟨n, z, st', rfl, h1⟩ := jx_ri_el h
      exact jx_s_istore_n hd q (hK _ _ _ _ _ _ h1)
    · exact h.elim
  · split at h
    · rename_i q
      obtain ⟨n, z, st', rfl, h1⟩ := jx_rl_el h
      exact jx_s_lstore hd q (hK _ _ _ _ _ _ h1)
    · exact h.elim
  · split at h
    · rename_i q
      obtain ⟨n, z, st', rfl, h1⟩ := jx_rl_el h
      exact jx_s_lstore_n hd q (hK _ _ _ _ _ _ h1)
    · exact h.elim
  · split at h
    · rename_i q
      split at h
      · split at h
        · rename_i q2
          exact jx_s_astore hd q q2 (hK _ _ _ _ _ _ h)
        · exact h.elim
      · exact h.elim
    · exact h.elim
  · split at h
    · rename_i q
      split at h
      · split at h
        · rename_i q2
          exact jx_s_astore_n hd q q2 (hK _ _ _ _ _ _ h)
        · exact h.elim
      · exact h.elim
    · exact h.elim
  · obtain ⟨n, z, st', e, h⟩ := jx_ri_el h
    exact jx_s_iinc hd (List.cons.inj e).1 (hK _ _ _ _ _ _ h)
  · obtain ⟨n, y, st', rfl, h1⟩ := jx_ri_el h
    obtain ⟨n', x, st', rfl, h2⟩ := jx_ri_el h1
    exact jx_s_iadd hd (hK _ _ _ _ _ _ h2)
  · obtain ⟨n, y, st', rfl, h1⟩ := jx_ri_el h
    obtain ⟨n', x, st', rfl, h2⟩ := jx_ri_el h1
    exact jx_s_isub hd (hK _ _ _ _ _ _ h2)
  · obtain ⟨n, y, st', rfl, h1⟩ := jx_ri_el h
    obtain ⟨n', x, st', rfl, h2⟩ := jx_ri_el h1
    exact jx_s_imul hd (hK _ _ _ _ _ _ h2)
  · obtain ⟨n, y, st', rfl, h1⟩ := jx_ri_el h
    exact jx_s_ineg hd (hK _ _ _ _ _ _ h1)
  · obtain ⟨n, y, st', rfl, h1⟩ := jx_ri_el h
    obtain ⟨n', x, st', rfl, h2⟩ := jx_ri_el h1
    exact jx_s_idiv hd h2.1 (hK _ _ _ _ _ _ h2.2)
  · obtain ⟨n, y, st', rfl, h1⟩ := jx_ri_el h
    obtain ⟨n', x, st', rfl, h2⟩ := jx_ri_el h1
    exact jx_s_irem hd h2.1 (hK _ _ _ _ _ _ h2.2)
  · obtain ⟨n, y, st', rfl, h1⟩ := jx_ri_el h
    obtain ⟨n', x, st', rfl, h2⟩ := jx_ri_el h1
    exact jx_s_iand hd (hK _ _ _ _ _ _ h2)
  · obtain ⟨n, y, st', rfl, h1⟩ := jx_ri_el h
    obtain ⟨n', x, st', rfl, h2⟩ := jx_ri_el h1
    exact jx_s_ishr hd (hK _ _ _ _ _ _ h2)
  · obtain ⟨n, y, st', rfl, h1⟩ := jx_ri_el h
    obtain ⟨n', x, st', rfl, h2⟩ := jx_ri_el h1
    exact jx_s_iushr hd (hK _ _ _ _ _ _ h2)
  · obtain ⟨n, y, st', rfl, h1⟩ := jx_rl_el h
    obtain ⟨n', x, st', rfl, h2⟩ := jx_rl_el h1
    exact jx_s_ladd hd (hK _ _ _ _ _ _ h2)
  · obtain ⟨n, y, st', rfl, h1⟩ := jx_rl_el h
    obtain ⟨n', x, st', rfl, h2⟩ := jx_rl_el h1
    exact jx_s_lmul hd (hK _ _ _ _ _ _ h2)
  · obtain ⟨n, y, st', rfl, h1⟩ := jx_rl_el h
    obtain ⟨n', x, st', rfl, h2⟩ := jx_rl_el h1
    exact jx_s_ldiv hd h2.1 (hK _ _ _ _ _ _ h2.2)
  · obtain ⟨n, y, st', rfl, h1⟩ := jx_rl_el h
    obtain ⟨n', x, st', rfl, h2⟩ := jx_rl_el h1
    exact jx_s_land hd (hK _ _ _ _ _ _ h2)
  · obtain ⟨n, y, st', rfl, h1⟩ := jx_rl_el h
    obtain ⟨n', x, st', rfl, h2⟩ := jx_rl_el h1
    exact jx_s_lor hd (hK _ _ _ _ _ _ h2)
  · obtain ⟨n, y, st', rfl, h1⟩ := jx_ri_el h
    obtain ⟨n', x, st', rfl, h2⟩ := jx_rl_el h1
    exact jx_s_lshl hd (hK _ _ _ _ _ _ h2)
  · obtain ⟨n, y, st', rfl, h1⟩ := jx_rl_el h
    obtain ⟨n', x, st', rfl, h2⟩ := jx_rl_el h1
    exact jx_s_lcmp hd (hK _ _ _ _ _ _ h2)
  · obtain ⟨n, y, st', rfl, h1⟩ := jx_ri_el h
    exact jx_s_i2l hd h1.1 (hK _ _ _ _ _ _ h1.2)
  · obtain ⟨n, y, st', rfl, h1⟩ := jx_rl_el h
    exact jx_s_l2i hd (hK _ _ _ _ _ _ h1)
  · split at h
    · exact h.elim
    · rename_i q
      exact jx_s_dup (fun z => by rename_i v _; obtain ⟨t, n, x⟩ := v; exact q n x (by rw [show t = 1 from z])) hd (hK _ _ _ _ _ _ h)
    · exact h.elim
  · split at h
    · exact h.elim
    · rename_i q
      exact jx_s_pop (fun z => by rename_i v _; obtain ⟨t, n, x⟩ := v; exact q n x (by rw [show t = 1 from z])) hd (hK _ _ _ _ _ _ h)
    · exact h.elim
  · split at h
    · exact h.elim
    · exact h.elim
    · rename_i v w _ q1 q2
      exact jx_s_dup2 (fun z => by obtain ⟨t, n, x⟩ := v; exact q1 n x (by rw [show t = 1 from z])) (fun z => by obtain ⟨t, n, x⟩ := w; exact q2 n x (by rw [show t = 1 from z])) hd (hK _ _ _ _ _ _ h)
    · exact h.elim
  · obtain ⟨n, y, st', rfl, h1⟩ := jx_ri_el h
    obtain ⟨n', x, st', rfl, h2⟩ := jx_ri_el h1
    exact jx_s_icmp hd (jx_tgt h2.1.1) h2.1.2.1 h2.1.2.2 (fun w => hK _ _ _ _ _ _ (h2.2.1 w)) (fun w => hK _ _ _ _ _ _ (h2.2.2 w))
  · obtain ⟨n, y, st', rfl, h1⟩ := jx_ri_el h
    exact jx_s_if hd (jx_tgt h1.1.1) h1.1.2 (fun w => hK _ _ _ _ _ _ (h1.2.1 w)) (fun w => hK _ _ _ _ _ _ (h1.2.2 w))
  · split at h
    · split at h
      · rename_i q
        exact jx_s_ifnull hd (jx_tgt h.1) q (fun w => hK _ _ _ _ _ _ (h.2.1 w)) (fun w => hK _ _ _ _ _ _ (h.2.2 w))
      · exact h.elim
    · exact h.elim
  · exact jx_s_goto hd (jx_tgt h.1) (hK _ _ _ _ _ _ h.2)
  · split at h
    · obtain ⟨r, e, h⟩ := jx_gf_el h
      exact jx_s_getfield hO.1 hd e (hK _ _ _ _ _ _ h)
    · exact h.elim
  · split at h
    · obtain ⟨r, e, hv, h⟩ := jx_pf_el h
      exact jx_s_putfield hO.1 hd e hv (hK _ _ _ _ _ _ h)
    · exact h.elim
  · obtain ⟨n, y, st', rfl, h1⟩ := jx_ri_el h
    split at h1
    · exact jx_s_iaload (Or.inl rfl) hd h1.1 (hK _ _ _ _ _ _ h1.2)
    · exact jx_s_iaload (Or.inr rfl) hd h1.1 (hK _ _ _ _ _ _ h1.2)
    · exact h1.elim
  · obtain ⟨n, y, st', rfl, h1⟩ := jx_ri_el h
    split at h1
    · exact jx_s_laload hd h1.1 (hK _ _ _ _ _ _ h1.2)
    · exact h1.elim
  · obtain ⟨n, y, st', rfl, h1⟩ := jx_ri_el h
    split at h1
    · exact jx_s_baload hd h1.1 (hK _ _ _ _ _ _ h1.2)
    · exact h1.elim
  · obtain ⟨n, y, st', rfl, h1⟩ := jx_ri_el h
    split at h1
    · exact jx_s_aaload hd h1.1 (jx_al_mono (fun v w => hK _ _ _ _ _ _ w) h1.2)
    · exact h1.elim
  · obtain ⟨n, y, st', rfl, h1⟩ := jx_ri_el h
    obtain ⟨n', x, st', rfl, h2⟩ := jx_ri_el h1
    split at h2
    · exact jx_s_iastore hd h2.1 (hK _ _ _ _ _ _ h2.2)
    · exact h2.elim
  · obtain ⟨n, y, st', rfl, h1⟩ := jx_rl_el h
    obtain ⟨n', x, st', rfl, h2⟩ := jx_ri_el h1
    split at h2
    · exact jx_s_lastore hd h2.1 (hK _ _ _ _ _ _ h2.2)
    · exact h2.elim
  · obtain ⟨n, y, st', rfl, h1⟩ := jx_ri_el h
    obtain ⟨n', x, st', rfl, h2⟩ := jx_ri_el h1
    split at h2
    · exact jx_s_bastore hd h2.1 h2.2.1 (hK _ _ _ _ _ _ h2.2.2)
    · exact h2.elim
  · split at h
    · exact jx_s_alen (by omega) (by omega) rfl hd (hK _ _ _ _ _ _ h)
    · exact jx_s_alen (by omega) (by omega) rfl hd (hK _ _ _ _ _ _ h)
    · exact jx_s_alen (by omega) (by omega) rfl hd (hK _ _ _ _ _ _ h)
    · exact h.elim
  · rename_i x
    obtain ⟨n, c1, c2, S, as, rest, e1, e2, e3, e4, h⟩ := jx_call_el h
    have q := hC _ (jx_ck_mem _ _ _ e1) as g M _ h
    dsimp only at q
    rw [show jx_op (3 * x) = .invokevirtual x by unfold jx_op; rw [if_pos (by omega)]; congr 1; omega] at q
    exact jx_s_call hK hH hd e2 e3 e4 q
  · rename_i x
    obtain ⟨n, c1, c2, S, as, rest, e1, e2, e3, e4, h⟩ := jx_call_el h
    have q := hC _ (jx_ck_mem _ _ _ e1) as g M _ h
    dsimp only at q
    rw [show jx_op (3 * x + 1) = .invokestatic x by unfold jx_op; rw [if_neg (by omega), if_pos (by omega)]; congr 1; omega] at q
    exact jx_s_call hK hH hd e2 e3 e4 q
  · rename_i x
    obtain ⟨n, c1, c2, S, as, rest, e1, e2, e3, e4, h⟩ := jx_call_el h
    have q := hC _ (jx_ck_mem _ _ _ e1) as g M _ h
    dsimp only at q
    rw [show jx_op (3 * x + 2) = .invokespecial x by unfold jx_op; rw [if_neg (by omega), if_neg (by omega)]; congr 1; omega] at q
    exact jx_s_call hK hH hd e2 e3 e4 q
  · split at h
    · exact jx_s_ireturn hd rfl h
    · exact jx_s_zreturn hd rfl h.1 h.2
    · exact h.elim
  · split at h
    · exact jx_s_lreturn hd rfl h
    · exact h.elim
  · split at h
    · split at h
      · rename_i q
        exact jx_s_areturn hd rfl q h
      · exact h.elim
    · exact h.elim
  · split at h
    · exact jx_s_return hd rfl h
    · exact h.elim
  · exact h.elim
/-- A RUN -/
theorem jx_run (hO : jx_OK o) (hC : jx_CsOK D l o.1 d cs) (hH : jx_HK D l (o.1, cc, nL, rc, hh, d, kc, ks, nm) hf) (sp : Nat → Bool) : ∀ (n pc : Nat) (ls st : List jx_A) (u : Nat × Nat) (g : jx_S) (M : jx_M),
    jx_wR o cs hf rc kc ks cc sp Po (jx_V D l (o.1, cc, nL, rc, hh, d, kc, ks, nm) Po) n pc ls st u g M → jx_V D l (o.1, cc, nL, rc, hh, d, kc, ks, nm) Po pc ls st u g M
  | 0, pc, ls, st, u, g, M, h => h
  | n + 1, pc, ls, st, u, g, M, h => by
    unfold jx_wR jx_wS at h
    split at h
    · exact h
    · rename_i q
      exact jx_step (fun pc ls st u g M => jx_run hO hC hH sp n pc ls st u g M) hO hC hH q h
    · exact h.elim
end JY
