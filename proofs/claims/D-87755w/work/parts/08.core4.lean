/-! THE MACHINE BY NUMBERS, 4: locals, branches -/
section JT
theorem jx_dl_spec {a w : jx_A} (h : jx_dl a = w) (hw : w.1 ≠ 5) : a = w ∧ w.1 ≠ 1 := by
  obtain ⟨t, n, z⟩ := a
  by_cases ht : t = 1
  · subst ht
    subst h
    exact absurd rfl hw
  · have e : jx_dl (t, n, z) = (t, n, z) := by
      unfold jx_dl
      split
      · rename_i q
        simp at q
        exact absurd q.1 ht
      · rfl
    rw [e] at h
    subst h
    exact ⟨rfl, ht⟩
theorem jx_set_spec : ∀ (ls : List jx_A) (i : Nat) (v : jx_A) (k : Nat) (w : jx_A), (jx_set ls i v)[k]? = some w → w.1 ≠ 5 → (k = i ∧ w = v) ∨ (k ≠ i ∧ ls[k]? = some w ∧ (k + 1 = i → w.1 ≠ 1))
  | [], i, v, k, w, h, hw => by simp [jx_set] at h
  | a :: l, 0, v, k, w, h, hw => by
    cases k with
    | zero =>
      simp [jx_set] at h
      exact Or.inl ⟨rfl, h.symm⟩
    | succ k =>
      simp [jx_set] at h
      exact Or.inr ⟨by omega, by simpa using h, by omega⟩
  | a :: l, 1, v, k, w, h, hw => by
    cases k with
    | zero =>
      simp [jx_set] at h
      obtain ⟨e, q⟩ := jx_dl_spec h hw
      exact Or.inr ⟨by omega, by simp [e], fun _ => q⟩
    | succ k =>
      have h' : (jx_set l 0 v)[k]? = some w := by simpa [jx_set] using h
      rcases jx_set_spec l 0 v k w h' hw with q | q
      · exact Or.inl ⟨by omega, q.2⟩
      · exact Or.inr ⟨by omega, by simpa using q.2.1, by omega⟩
  | a :: l, i + 2, v, k, w, h, hw => by
    cases k with
    | zero =>
      simp [jx_set] at h
      exact Or.inr ⟨by omega, by simp [h], by omega⟩
    | succ k =>
      have h' : (jx_set l (i + 1) v)[k]? = some w := by simpa [jx_set] using h
      rcases jx_set_spec l (i + 1) v k w h' hw with q | q
      · exact Or.inl ⟨by omega, q.2⟩
      · exact Or.inr ⟨by omega, by simpa using q.2.1, fun e => q.2.2 (by omega)⟩
theorem jx_set2_spec : ∀ (ls : List jx_A) (i : Nat) (v : jx_A) (k : Nat) (w : jx_A), i + 1 < ls.length → (jx_set2 ls i v)[k]? = some w → w.1 ≠ 5 → (k = i ∧ w = v) ∨ (k ≠ i ∧ k ≠ i + 1 ∧ ls[k]? = some w ∧ (k + 1 = i → w.1 ≠ 1))
  | [], i, v, k, w, hi, h, hw => by simp at hi
  | [a], i, v, k, w, hi, h, hw => by simp at hi
  | a :: b :: l, 0, v, k, w, hi, h, hw => by
    match k with
    | 0 =>
      simp [jx_set2] at h
      exact Or.inl ⟨rfl, h.symm⟩
    | 1 =>
      simp [jx_set2] at h
      subst h
      exact absurd rfl hw
    | k + 2 =>
      simp [jx_set2] at h
      exact Or.inr ⟨by omega, by omega, by simpa using h, by omega⟩
  | a :: b :: l, 1, v, k, w, hi, h, hw => by
    match k with
    | 0 =>
      simp [jx_set2] at h
      obtain ⟨e, q⟩ := jx_dl_spec h hw
      exact Or.inr ⟨by omega, by omega, by simp [e], fun _ => q⟩
    | k + 1 =>
      have h' : (jx_set2 (b :: l) 0 v)[k]? = some w := by simpa [jx_set2] using h
      rcases jx_set2_spec (b :: l) 0 v k w (by simp at hi ⊢; omega) h' hw with q | q
      · exact Or.inl ⟨by omega, q.2⟩
      · exact Or.inr ⟨by omega, by omega, by simpa using q.2.2.1, by omega⟩
  | a :: b :: l, i + 2, v, k, w, hi, h, hw => by
    match k with
    | 0 =>
      simp [jx_set2] at h
      exact Or.inr ⟨by omega, by omega, by simp [h], by omega⟩
    | k + 1 =>
      have h' : (jx_set2 (b :: l) (i + 1) v)[k]? = some w := by simpa [jx_set2] using h
      rcases jx_set2_spec (b :: l) (i + 1) v k w (by simp at hi ⊢; omega) h' hw with q | q
      · exact Or.inl ⟨by omega, q.2⟩
      · exact Or.inr ⟨by omega, by omega, by simpa using q.2.2.1, fun e => q.2.2.2 (by omega)⟩
theorem jx_set_len : ∀ (ls : List jx_A) (i : Nat) (v : jx_A), (jx_set ls i v).length = ls.length
  | [], i, v => by simp [jx_set]
  | a :: l, 0, v => by simp [jx_set]
  | a :: l, 1, v => by simp [jx_set, jx_set_len l 0 v]
  | a :: l, i + 2, v => by simp [jx_set, jx_set_len l (i + 1) v]
theorem jx_set2_len : ∀ (ls : List jx_A) (i : Nat) (v : jx_A), i + 1 < ls.length → (jx_set2 ls i v).length = ls.length
  | [], i, v, hi => by simp at hi
  | [a], i, v, hi => by simp at hi
  | a :: b :: l, 0, v, hi => by simp [jx_set2]
  | a :: b :: l, 1, v, hi => by simp [jx_set2, jx_set2_len (b :: l) 0 v (by simp at hi ⊢; omega)]
  | a :: b :: l, i + 2, v, hi => by simp [jx_set2, jx_set2_len (b :: l) (i + 1) v (by simp at hi ⊢; omega)]
theorem jx_ix_lt : ∀ (i : Nat) (ls : List jx_A), jx_ix i ls = true → i < ls.length
  | _, [], h => by simp [jx_ix] at h
  | 0, a :: l, _ => by simp
  | i + 1, a :: l, h => by
    have := jx_ix_lt i l (by simpa [jx_ix] using h)
    simp
    omega
theorem jx_get_at : ∀ (ls : List jx_A) (i : Nat) (v : jx_A), jx_get ls i = v → v.1 ≠ 5 → ls[i]? = some v
  | [], i, v, h, hv => by
    simp [jx_get] at h
    subst h
    exact absurd rfl hv
  | a :: l, 0, v, h, hv => by simpa [jx_get] using h
  | a :: l, i + 1, v, h, hv => by
    have := jx_get_at l i v (by simpa [jx_get] using h) hv
    simpa using this
variable {g : jx_S}
theorem jx_ok_5 : jx_ok1 g (5, 0, 0) := ⟨fun h => (by simp at h), fun h => (by simp at h), fun h => (by simp at h)⟩
theorem jx_ok_of {ls : List jx_A} (h : ∀ (k : Nat) (w : jx_A), ls[k]? = some w → w.1 ≠ 5 → jx_ok1 g w) : jx_ok g ls := by
  intro v hv
  obtain ⟨k, hk⟩ := List.getElem?_of_mem hv
  by_cases h5 : v.1 = 5
  · refine ⟨fun q => ?_, fun q => ?_, fun q => ?_⟩
    · omega
    · omega
    · omega
  · exact h k v hk h5
theorem jx_ok_set {ls : List jx_A} {i : Nat} {v : jx_A} (h : jx_ok g ls) (hv : jx_ok1 g v) : jx_ok g (jx_set ls i v) := by
  refine jx_ok_of fun k w hk hw => ?_
  rcases jx_set_spec ls i v k w hk hw with q | q
  · rw [q.2]; exact hv
  · exact h w (List.mem_of_getElem? q.2.1)
theorem jx_ok_set2 {ls : List jx_A} {i : Nat} {v : jx_A} (hi : i + 1 < ls.length) (h : jx_ok g ls) (hv : jx_ok1 g v) : jx_ok g (jx_set2 ls i v) := by
  refine jx_ok_of fun k w hk hw => ?_
  rcases jx_set2_spec ls i v k w hi hk hw with q | q
  · rw [q.2]; exact hv
  · exact h w (List.mem_of_getElem? q.2.2.1)
theorem jx_store1 {a : Array Slot} {n : Nat} {ls : List jx_A} {i : Nat} {v : jx_A} (h : jx_Ls a n ls) (hi : i < ls.length) (hv : v.1 ≠ 1) : ∃ a', storeLocals a i (jx_cv v) = some a' ∧ jx_Ls a' n (jx_set ls i v) := by
  obtain ⟨h1, h2, h3, h4⟩ := h
  obtain ⟨a', e, h'⟩ := lv_store1 (ls := a) (nL := n) (l := []) (i := i) (v := jx_cv v) ⟨h1, h2, fun q hq => by simp at hq⟩ (by omega) (jx_cat v hv)
  refine ⟨a', e, h'.1, h'.2.1, (jx_set_len ls i v).trans h3, fun k w hk hw => ?_⟩
  rcases jx_set_spec ls i v k w hk hw with q | q
  · rw [q.1, q.2]
    exact h'.2.2 (i, jx_cv v) List.mem_cons_self
  · obtain ⟨a2, e2, h2'⟩ := lv_store1 (ls := a) (nL := n) (l := [(k, jx_cv w)]) (i := i) (v := jx_cv v) ⟨h1, h2, fun q' hq => by rw [List.mem_singleton] at hq; subst hq; exact h4 k w q.2.1 hw⟩ (by omega) (jx_cat v hv)
    cases e.symm.trans e2
    refine h2'.2.2 (k, jx_cv w) (List.mem_cons_of_mem _ (List.mem_filter.mpr ⟨List.mem_singleton.mpr rfl, ?_⟩))
    have c1 : ¬ (k + 1 = i ∧ (jx_cv w).category = 2) := fun z => by
      have := jx_cat w (q.2.2 z.1)
      omega
    simp only [Bool.and_eq_true, Bool.not_eq_true', beq_eq_false_iff_ne, ne_eq, Bool.and_eq_false_iff]
    refine ⟨q.1, ?_⟩
    by_cases z : k + 1 = i
    · exact Or.inr fun y => c1 ⟨z, y⟩
    · exact Or.inl z
theorem jx_store2 {a : Array Slot} {n : Nat} {ls : List jx_A} {i : Nat} {m z : Int} (h : jx_Ls a n ls) (hi : i + 1 < ls.length) : ∃ a', storeLocals a i (jx_cv (1, m, z)) = some a' ∧ jx_Ls a' n (jx_set2 ls i (1, m, z)) := by
  obtain ⟨h1, h2, h3, h4⟩ := h
  obtain ⟨a', e, h'⟩ := lv_store2 (ls := a) (nL := n) (l := []) (i := i) (v := jx_cv (1, m, z)) ⟨h1, h2, fun q hq => by simp at hq⟩ (by omega) rfl
  refine ⟨a', e, h'.1, h'.2.1, (jx_set2_len ls i _ hi).trans h3, fun k w hk hw => ?_⟩
  rcases jx_set2_spec ls i _ k w hi hk hw with q | q
  · rw [q.1, q.2]
    exact h'.2.2 (i, jx_cv (1, m, z)) List.mem_cons_self
  · obtain ⟨a2, e2, h2'⟩ := lv_store2 (ls := a) (nL := n) (l := [(k, jx_cv w)]) (i := i) (v := jx_cv (1, m, z)) ⟨h1, h2, fun q' hq => by rw [List.mem_singleton] at hq; subst hq; exact h4 k w q.2.2.1 hw⟩ (by omega) rfl
    cases e.symm.trans e2
    refine h2'.2.2 (k, jx_cv w) (List.mem_cons_of_mem _ (List.mem_filter.mpr ⟨List.mem_singleton.mpr rfl, ?_⟩))
    have c1 : ¬ (k + 1 = i ∧ (jx_cv w).category = 2) := fun z => by
      have := jx_cat w (q.2.2.2 z.1)
      omega
    simp only [Bool.and_eq_true, Bool.not_eq_true', beq_eq_false_iff_ne, ne_eq, Bool.and_eq_false_iff]
    refine ⟨q.1, q.2.1, ?_⟩
    by_cases z : k + 1 = i
    · exact Or.inr fun y => c1 ⟨z, y⟩
    · exact Or.inl z
end JT
