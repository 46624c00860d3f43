/-! LoopLane: search, take -/
set_option maxRecDepth 100000
def xSf (x : Int) (M M' : jx_M) : Prop := ∀ z k : Int, z ≠ x + 33 → z ≠ x + 34 → z ≠ x + 35 → z ≠ x + 36 → ¬ (z = x ∧ (k = 30 ∨ k = 34 ∨ k = 35)) → M' z k = M z k
def js_X0_search : jx_Sp := fun as g M Po => match as with
  | [(60, _, x), (0, _, b)] => ∃ S, (0 ≤ x ∧ rBd x S g M ∧ rEd x S M ∧ mB S ∧ 1 ≤ S 0 9 ∧ (1 ≤ b ∧ b ≤ 60) ∧ (0 ≤ M x 34 ∧ M x 34 ≤ 3000) ∧ M x 35 = 0) ∧
     (∀ (M' : jx_M) (F : Int → Int), xSf x M M' → (M x 34 ≤ M' x 34 ∧ M' x 34 ≤ 3000) → M' x 34 = (ms_go S b 61000 0 (fun _ => 0) (M x 34)).2.1 → (ms_go S b 61000 0 (fun _ => 0) (M x 34)).1 = 0 → M' x 35 = 0 → xPt x (S 0 9) b (ms_go S b 61000 0 (fun _ => 0) (M x 34)).2.2 M' → mm_LeastE (S 0 9) (me_all S) (mm_ws b (ms_go S b 61000 0 (fun _ => 0) (M x 34)).2.2) F → (∀ v, 0 ≤ v → v < S 0 9 → M' (x + 34) v = F v) → Po (0, 0, 1) g M') ∧
     (∀ M' : jx_M, xSf x M M' → (M x 34 ≤ M' x 34 ∧ M' x 34 ≤ 3000) → M' x 34 = (ms_go S b 61000 0 (fun _ => 0) (M x 34)).2.1 → ((ms_go S b 61000 0 (fun _ => 0) (M x 34)).1 = 3 ∧ M' x 35 = 0 ∨ (ms_go S b 61000 0 (fun _ => 0) (M x 34)).1 = 4 ∧ M' x 35 = 1) → Po (0, 0, 0) g M')
  | _ => False
def cs_X0_search : jx_Cs := [(438, 2, 0, 0, js_X0_place 16), (366, 4, 0, 0, js_X0_findWays), (319, 2, 0, 0, js_J10_max)]
theorem hc_X0_search {D : jx_D} {l : Launch} : jx_CsOK D l "LoopLane" 21 cs_X0_search := List.forall_mem_cons.mpr ⟨jc_X0_146 (jt_X0_place l 16) (fun as g M Po (h : js_X0_place 16 as g M Po) => by unfold js_X0_place at h; split at h <;> first | exact h.elim | exact ⟨_, _, _, rfl, rfl⟩) (by decide), List.forall_mem_cons.mpr ⟨jc_X0_122 (jt_X0_findWays l) (fun as g M Po (h : js_X0_findWays as g M Po) => by unfold js_X0_findWays at h; split at h <;> first | exact h.elim | exact ⟨_, _, _, rfl, rfl⟩) (by decide), List.forall_mem_cons.mpr ⟨jx_CS_max q910, fun _ h => absurd h List.not_mem_nil⟩⟩⟩
set_option maxHeartbeats 4000000 in
theorem jt_X0_search (l : Launch) : jx_Ct l yX0_search (ws_ yX0_search cX0_search 6 (some .boolean)) 21 0 0 js_X0_search := by
  refine jx_Ct_c (rc := 4) (by decide) rfl (fun D as g M Po hS => ?_)
  unfold js_X0_search at hS
  split at hS
  · rename_i n1 x n2 b
    obtain ⟨S, ⟨hx, hR, hE, hB, h1, hb, htr, hsp⟩, hY, hN⟩ := hS
    have h9 := hB.1
    refine ⟨Nat.le_of_ble_eq_true rfl, ?_⟩
    obtain ⟨t0, ht0⟩ : ∃ q, q = M x 34 := ⟨_, rfl⟩
    rw [← ht0] at htr hY hN
    have e0 : mm_up1 (fun _ : Int => (0 : Int)) 0 0 = fun _ => 0 := by
      funext v
      unfold mm_up1
      rw [ite_self]
    have hE0 : ∀ x y t d, me_all S x y t d → 0 ≤ x ∧ 0 ≤ y := fun p q t d h => ⟨(xf_E_all hB p q t d h).1.1, (xf_E_all hB p q t d h).2.1.1⟩
    have n9 : ((S 0 9).toNat : Int) = S 0 9 := by omega
    have st : ∀ M', xSf x M M' → rBd x S g M' ∧ rEd x S M' ∧ M' x 5 = S 0 9 := fun M' h => ⟨rBd_c h9.2 hR (fun z k w => h z k (by unfold qBd at w; omega) (by unfold qBd at w; omega) (by unfold qBd at w; omega) (by unfold qBd at w; omega) (by unfold qBd at w; omega)), rEd_c hE (fun z k w => h z k (by unfold qEd at w; omega) (by unfold qEd at w; omega) (by unfold qEd at w; omega) (by unfold qEd at w; omega) (by unfold qEd at w; omega)), by rw [h _ _ (by omega) (by omega) (by omega) (by omega) (by omega)]; exact hR.1⟩
    -- the stages
    have stages : ∀ (M1 : jx_M) (T : Int → Int) (P2 : Int), ms_go S b 61000 0 (fun _ => 0) t0 = (0, M1 x 34, T) → xSf x M M1 → (t0 ≤ M1 x 34 ∧ M1 x 34 ≤ 3000) → M1 x 35 = 0 → xPt x (S 0 9) b T M1 → mm_LeastE (S 0 9) (me_all S) (mm_ws b T) (fun v => mm_top (xW (S 0 9) x M1) v (S 0 9).toNat) → xW_r (S 0 9) x M1 → ∀ (f v : Nat) (M' : jx_M) (P4 P5 : jx_A), (v : Int) + f = S 0 9 → (∀ z k : Int, z ≠ x + 34 → M' z k = M1 z k) → (∀ u, 0 ≤ u → u < (v : Int) → M' (x + 34) u = mm_top (xW (S 0 9) x M1) u (S 0 9).toNat) → jx_V D l (yX0_search.cls, cX0_search, 6, 4, [], 21, 0, 0, yX0_search.name) Po 52 [(60, n1, x), (0, n2, b), (0, 0, P2), (0, 0, (v : Int)), P4, P5] [] (0, 0) g (M') := by
      intro M1 T P2 hG s1 s2 s3 s4 s5 s6 f
      induction f with
      | zero =>
        intro v M' P4 P5 hv k1 k2
        have f1 : xSf x M M' := fun z k q1 q2 q3 q4 q5 => (k1 z k q2).trans (s1 z k q1 q2 q3 q4 q5)
        have q := st M' f1
        have hy := hY M' (fun v => mm_top (xW (S 0 9) x M1) v (S 0 9).toNat) f1 (by rw [k1 _ _ (by omega)]; exact s2) (by rw [hG, k1 _ _ (by omega)]) (by rw [hG]) (by rw [k1 _ _ (by omega)]; exact s3) (by rw [hG]; intro u u0 u1; rw [k1 _ _ (by omega)]; exact s4 u u0 u1) (by rw [hG]; exact s5) (fun u u0 u1 => k2 u u0 (by omega))
        refine jx_runL (o := jo_X0) (cs := cs_X0_search) (hf := jx_nh) jo_X0_ok hc_X0_search (jx_HK_nil rfl) (fun p => p == 60) 20 ?_
        simp only [jw, ju, jx_tg, Int.cast_ofNat_Int, Int.reduceAdd, Int.reduceToNat, Nat.reduceAdd, Nat.reduceMul, Nat.reduceBEq, Nat.reduceLeDiff, Int.reduceLE, Int.reduceLT, Int.reduceEq, Int.reduceNeg, Int.reduceSub, Int.reduceMul, not_false_eq_true, true_and, and_true, and_self, Bool.or_false, Bool.false_or, Bool.or_true, Bool.true_or, List.length_nil, List.length_cons, Nat.zero_le, or_true, true_or, Nat.le_refl, ↓reduceIte, Nat.reduceEqDiff, forall_const, false_and, and_false, false_implies, implies_true, not_true_eq_false, or_false, false_or, ne_eq, jd_X0_search, jf_X0, q.2.2, cs_X0_search, jx_ck_c]
        exact ⟨by omega, fun c => hy, fun c => by omega⟩
      | succ f ih =>
        intro v M' P4 P5 hv k1 k2
        have f1 : xSf x M M' := fun z k q1 q2 q3 q4 q5 => (k1 z k q2).trans (s1 z k q1 q2 q3 q4 q5)
        have q := st M' f1
        have inner : ∀ (p u : Nat), (u : Int) + p = S 0 9 → jx_V D l (yX0_search.cls, cX0_search, 6, 4, [], 21, 0, 0, yX0_search.name) Po 66 [(60, n1, x), (0, n2, b), (0, 0, P2), (0, 0, (v : Int)), (0, 0, mm_top (xW (S 0 9) x M1) v u), (0, 0, (u : Int))] [] (0, 0) g (M') := by
          intro p
          induction p with
          | zero =>
            intro u hu
            rw [show mm_top (xW (S 0 9) x M1) v u = mm_top (xW (S 0 9) x M1) v (S 0 9).toNat by rw [show (S 0 9).toNat = u by omega]]
            refine jx_runL (o := jo_X0) (cs := cs_X0_search) (hf := jx_nh) jo_X0_ok hc_X0_search (jx_HK_nil rfl) (fun p => p == 52 || p == 75) 30 ?_
            simp only [jw, ju, jx_tg, Int.cast_ofNat_Int, Int.reduceAdd, Int.reduceToNat, Nat.reduceAdd, Nat.reduceMul, Nat.reduceBEq, Nat.reduceLeDiff, Int.reduceLE, Int.reduceLT, Int.reduceEq, Int.reduceNeg, Int.reduceSub, Int.reduceMul, not_false_eq_true, true_and, and_true, and_self, Bool.or_false, Bool.false_or, Bool.or_true, Bool.true_or, List.length_nil, List.length_cons, Nat.zero_le, or_true, true_or, Nat.le_refl, ↓reduceIte, Nat.reduceEqDiff, forall_const, false_and, and_false, false_implies, implies_true, not_true_eq_false, or_false, false_or, ne_eq, jd_X0_search, jf_X0, q.2.2, cs_X0_search, jx_ck_c]
            refine ⟨by omega, fun c => ⟨by omega, ?_⟩, fun c => by omega⟩
            have := ih (v + 1) (jx_u M' (x + 34) v (mm_top (xW (S 0 9) x M1) v (S 0 9).toNat)) (0, 0, mm_top (xW (S 0 9) x M1) v (S 0 9).toNat) (0, 0, (u : Int)) (by omega) (fun z k hz => by rw [jx_u_a _ _ _ _ _ _ hz]; exact k1 z k hz) (fun w w0 w1 => by
              by_cases c2 : w = v
              · rw [c2, jx_u_eq]
              · rw [jx_u_j _ _ _ _ _ _ c2]; exact k2 w w0 (by omega))
            rw [show (((v + 1 : Nat) : Int)) = (v : Int) + 1 by omega] at this
            exact this
          | succ p ip =>
            intro u hu
            have qq : xf_in (S 0 9) u v := ⟨⟨by omega, by omega⟩, by omega, by omega⟩
            have ix := xf_ix h9.2 qq
            have rk := s6 u v qq
            have tr := mm_top_r (W := xW (S 0 9) x M1) (v := v) (B := 7864320) (by decide) u (fun w w0 w1 => (s6 w v ⟨⟨w0, by omega⟩, by omega, by omega⟩).2)
            have nx := ip (u + 1) (by omega)
            have ew : M' (x + 36) (S 0 9 * u + v) = xW (S 0 9) x M1 u v := k1 _ _ (by omega)
            rw [show mm_top (xW (S 0 9) x M1) v (u + 1) = max (mm_top (xW (S 0 9) x M1) v u) (xW (S 0 9) x M1 u v) from rfl, show (((u + 1 : Nat) : Int)) = (u : Int) + 1 by omega] at nx
            refine jx_runL (o := jo_X0) (cs := cs_X0_search) (hf := jx_nh) jo_X0_ok hc_X0_search (jx_HK_nil rfl) (fun p => p == 66 || p == 102) 40 ?_
            simp only [jw, ju, jx_tg, Int.cast_ofNat_Int, Int.reduceAdd, Int.reduceToNat, Nat.reduceAdd, Nat.reduceMul, Nat.reduceBEq, Nat.reduceLeDiff, Int.reduceLE, Int.reduceLT, Int.reduceEq, Int.reduceNeg, Int.reduceSub, Int.reduceMul, not_false_eq_true, true_and, and_true, and_self, Bool.or_false, Bool.false_or, Bool.or_true, Bool.true_or, List.length_nil, List.length_cons, Nat.zero_le, or_true, true_or, Nat.le_refl, ↓reduceIte, Nat.reduceEqDiff, forall_const, false_and, and_false, false_implies, implies_true, not_true_eq_false, or_false, false_or, ne_eq, jd_X0_search, jf_X0, q.2.2, ew, js_J10_max, cs_X0_search, jx_ck_c]
            exact ⟨by omega, fun c => by omega, fun c => ⟨by omega, ⟨⟨by omega, by omega⟩, by omega, by omega⟩, nx⟩⟩
        refine jx_runL (o := jo_X0) (cs := cs_X0_search) (hf := jx_nh) jo_X0_ok hc_X0_search (jx_HK_nil rfl) (fun p => p == 66 || p == 116) 20 ?_
        simp only [jw, ju, jx_tg, Int.cast_ofNat_Int, Int.reduceAdd, Int.reduceToNat, Nat.reduceAdd, Nat.reduceMul, Nat.reduceBEq, Nat.reduceLeDiff, Int.reduceLE, Int.reduceLT, Int.reduceEq, Int.reduceNeg, Int.reduceSub, Int.reduceMul, not_false_eq_true, true_and, and_true, and_self, Bool.or_false, Bool.false_or, Bool.or_true, Bool.true_or, List.length_nil, List.length_cons, Nat.zero_le, or_true, true_or, Nat.le_refl, ↓reduceIte, Nat.reduceEqDiff, forall_const, false_and, and_false, false_implies, implies_true, not_true_eq_false, or_false, false_or, ne_eq, jd_X0_search, jf_X0, q.2.2, cs_X0_search, jx_ck_c]
        exact ⟨by omega, fun c => by omega, fun c => inner (S 0 9).toNat 0 (by omega)⟩
    have at29 : ∀ (M0 : jx_M) (P2 : jx_A), (∀ z k : Int, z ≠ x + 35 → ¬ (z = x ∧ k = 30) → M0 z k = M z k) → M0 x 30 = b → (∀ j, 0 ≤ j → j < 360 → M0 (x + 35) j = 0) → jx_V D l (yX0_search.cls, cX0_search, 6, 4, [], 21, 0, 0, yX0_search.name) Po 29 [(60, n1, x), (0, n2, b), P2, (5, 0, 0), (5, 0, 0), (5, 0, 0)] [] (0, 0) g (M0) := by
      intro M0 P2 f1 f2 f3
      have g1 : xSf x M M0 := fun z k q1 q2 q3 q4 q5 => f1 z k q3 (by omega)
      obtain ⟨u1, u2, u3⟩ := st M0 g1
      have e34 : M0 x 34 = t0 := by rw [f1 _ _ (by omega) (by omega), ht0]
      have e35 : M0 x 35 = 0 := by rw [f1 _ _ (by omega) (by omega)]; exact hsp
      refine jx_runL (o := jo_X0) (cs := cs_X0_search) (hf := jx_nh) jo_X0_ok hc_X0_search (jx_HK_nil rfl) (fun p => p == 39) 30 ?_
      simp only [jw, ju, jx_tg, Int.cast_ofNat_Int, Int.reduceAdd, Int.reduceToNat, Nat.reduceAdd, Nat.reduceMul, Nat.reduceBEq, Nat.reduceLeDiff, Int.reduceLE, Int.reduceLT, Int.reduceEq, Int.reduceNeg, Int.reduceSub, Int.reduceMul, not_false_eq_true, true_and, and_true, and_self, Bool.or_false, Bool.false_or, Bool.or_true, Bool.true_or, List.length_nil, List.length_cons, Nat.zero_le, or_true, true_or, Nat.le_refl, ↓reduceIte, Nat.reduceEqDiff, forall_const, false_and, and_false, false_implies, implies_true, not_true_eq_false, or_false, false_or, ne_eq, jd_X0_search, jf_X0, js_X0_place, f2, e34, e35, cs_X0_search, jx_ck_c]
      refine ⟨S, fun _ => 0, ⟨hx, u1, u2, hB, by omega, hb, fun v v0 v1 => by omega, fun k t q1 q2 q3 q4 => by rw [f3 _ (by omega) (by omega)]; rfl, fun k t q1 q2 q3 q4 => (hB.2.2.2.2.2 k q1 q2).1, by omega⟩, fun M1 T g2 g3 g4 g5 g6 g7 => ?_, fun M1 g0 g2 g3 g4 g5 g6 => ?_⟩
      · obtain ⟨hok, k, hk, hG⟩ := g7 (by omega)
        have hG1 := hG (61000 - k)
        rw [show 61000 - k + k = 61000 by omega, e0] at hG1
        have s1 : xSf x M M1 := fun z i q1 q2 q3 q4 q5 => (g2 z i q1 q3 q4 (by omega)).trans (g1 z i q1 q2 q3 q4 q5)
        obtain ⟨v1, v2, v3⟩ := st M1 s1
        refine jx_runL (o := jo_X0) (cs := cs_X0_search) (hf := jx_nh) jo_X0_ok hc_X0_search (jx_HK_nil rfl) (fun p => p == 49) 30 ?_
        simp only [jw, ju, jx_tg, Int.cast_ofNat_Int, Int.reduceAdd, Int.reduceToNat, Nat.reduceAdd, Nat.reduceMul, Nat.reduceBEq, Nat.reduceLeDiff, Int.reduceLE, Int.reduceLT, Int.reduceEq, Int.reduceNeg, Int.reduceSub, Int.reduceMul, not_false_eq_true, true_and, and_true, and_self, Bool.or_false, Bool.false_or, Bool.or_true, Bool.true_or, List.length_nil, List.length_cons, Nat.zero_le, or_true, true_or, Nat.le_refl, ↓reduceIte, Nat.reduceEqDiff, forall_const, false_and, and_false, false_implies, implies_true, not_true_eq_false, or_false, false_or, ne_eq, jd_X0_search, jf_X0, js_X0_findWays, v3, cs_X0_search, jx_ck_c]
        refine ⟨me_all S, ⟨h9, hb, rEd_23 hB v2, v2.2.2, xf_E_all hB, fun v v0 v1 => by rw [(g3 v v0 v1).1]; exact (g3 v v0 v1).2⟩, fun r M2 j1 j2 => ?_⟩
        have ews : xf_wt b 1 (M1 (x + 33)) = mm_ws b (M1 (x + 33)) := if_neg (by decide)
        rw [ews] at j2
        have gT : ∀ v : Int, 0 ≤ v → v < ((S 0 9).toNat : Int) → M1 (x + 33) v = T v := fun v v0 v1 => (g3 v v0 (by omega)).1
        have sol : ∃ f, mm_SolE (S 0 9) (me_all S) (mm_ws b (M1 (x + 33))) f := by
          obtain ⟨ff, hff⟩ := hok.2
          have := mm_SolE_congr (T' := M1 (x + 33)) hE0 (fun v v0 v1 => (gT v v0 v1).symm) hff
          rw [n9] at this
          exact ⟨ff, this⟩
        rcases j2 with ⟨rfl, hI⟩ | ⟨-, hno⟩
        · have hls := xf_least (n := (S 0 9).toNat) hE0 (by rw [n9]; exact hI)
          have hls2 := mm_LeastE_congr hE0 gT hls
          rw [n9] at hls2
          refine jx_runL (o := jo_X0) (cs := cs_X0_search) (hf := jx_nh) jo_X0_ok hc_X0_search (jx_HK_nil rfl) (fun p => p == 52) 30 ?_
          simp only [jw, ju, jx_tg, Int.cast_ofNat_Int, Int.reduceAdd, Int.reduceToNat, Nat.reduceAdd, Nat.reduceMul, Nat.reduceBEq, Nat.reduceLeDiff, Int.reduceLE, Int.reduceLT, Int.reduceEq, Int.reduceNeg, Int.reduceSub, Int.reduceMul, not_false_eq_true, true_and, and_true, and_self, Bool.or_false, Bool.false_or, Bool.or_true, Bool.true_or, List.length_nil, List.length_cons, Nat.zero_le, or_true, true_or, Nat.le_refl, ↓reduceIte, Nat.reduceEqDiff, forall_const, false_and, and_false, false_implies, implies_true, not_true_eq_false, or_false, false_or, ne_eq, jd_X0_search, jf_X0, cs_X0_search, jx_ck_c]
          exact stages M2 T _ (by rw [j1 _ _ (by omega)]; exact hG1) (fun z i q1 q2 q3 q4 q5 => (j1 z i q4).trans (s1 z i q1 q2 q3 q4 q5)) (by rw [j1 _ _ (by omega)]; exact g4) (by rw [j1 _ _ (by omega)]; exact g5) (fun v v0 v1 => by rw [j1 _ _ (by omega)]; exact g3 v v0 v1) hls2 (fun u v q => ⟨(hI.1 u v q).1, xf_pw h9 (hI.1 u v q).2⟩) (S 0 9).toNat 0 M2 _ _ (by omega) (fun _ _ _ => rfl) (fun u u0 u1 => by omega)
        · exact absurd sol hno
      · have s1 : xSf x M M1 := fun z i q1 q2 q3 q4 q5 => (g2 z i q1 q3 q4 (by omega)).trans (g1 z i q1 q2 q3 q4 q5)
        refine hN M1 s1 g5 ?_ ?_
        · rcases g6 with ⟨-, k, T, z1, z2, z3, z4⟩ | ⟨-, w1, k, T, z1, z2⟩
          · have := z4 (61000 - k - 1 + 1)
            rw [show 61000 - k - 1 + 1 + k = 61000 by omega, e0, ms_go_lim0 (T := T) (by rw [z3]; rfl)] at this
            rw [this]
          · have := z2 (61000 - k)
            rw [show 61000 - k + k = 61000 by omega, e0] at this
            rw [this, w1]
        · rcases g6 with ⟨w0, k, T, z1, z2, z3, z4⟩ | ⟨w0, w1, k, T, z1, z2⟩
          · have := z4 (61000 - k - 1 + 1)
            rw [show 61000 - k - 1 + 1 + k = 61000 by omega, e0, ms_go_lim0 (T := T) (by rw [z3]; rfl)] at this
            exact .inl ⟨by rw [this], w0⟩
          · have := z2 (61000 - k)
            rw [show 61000 - k + k = 61000 by omega, e0] at this
            exact .inr ⟨by rw [this], w0⟩
    have zero : ∀ (f k : Nat) (M0 : jx_M), k + f = 360 → (∀ z k : Int, z ≠ x + 35 → ¬ (z = x ∧ k = 30) → M0 z k = M z k) → M0 x 30 = b → (∀ j, 0 ≤ j → j < (k : Int) → M0 (x + 35) j = 0) → jx_V D l (yX0_search.cls, cX0_search, 6, 4, [], 21, 0, 0, yX0_search.name) Po 7 [(60, n1, x), (0, n2, b), (0, 0, (k : Int)), (5, 0, 0), (5, 0, 0), (5, 0, 0)] [] (0, 0) g (M0) := by
      intro f
      induction f with
      | zero =>
        intro k M0 hk f1 f2 f3
        refine jx_runL (o := jo_X0) (cs := cs_X0_search) (hf := jx_nh) jo_X0_ok hc_X0_search (jx_HK_nil rfl) (fun p => p == 16 || p == 29) 30 ?_
        simp only [jw, ju, jx_tg, Int.cast_ofNat_Int, Int.reduceAdd, Int.reduceToNat, Nat.reduceAdd, Nat.reduceMul, Nat.reduceBEq, Nat.reduceLeDiff, Int.reduceLE, Int.reduceLT, Int.reduceEq, Int.reduceNeg, Int.reduceSub, Int.reduceMul, not_false_eq_true, true_and, and_true, and_self, Bool.or_false, Bool.false_or, Bool.or_true, Bool.true_or, List.length_nil, List.length_cons, Nat.zero_le, or_true, true_or, Nat.le_refl, ↓reduceIte, Nat.reduceEqDiff, forall_const, false_and, and_false, false_implies, implies_true, not_true_eq_false, or_false, false_or, ne_eq, jd_X0_search, jf_X0, cs_X0_search, jx_ck_c]
        exact ⟨by omega, fun c => at29 M0 _ f1 f2 (fun j q0 q1 => f3 j q0 (by omega)), fun c => by omega⟩
      | succ f ih =>
        intro k M0 hk f1 f2 f3
        refine jx_runL (o := jo_X0) (cs := cs_X0_search) (hf := jx_nh) jo_X0_ok hc_X0_search (jx_HK_nil rfl) (fun p => p == 7 || p == 29) 30 ?_
        simp only [jw, ju, jx_tg, Int.cast_ofNat_Int, Int.reduceAdd, Int.reduceToNat, Nat.reduceAdd, Nat.reduceMul, Nat.reduceBEq, Nat.reduceLeDiff, Int.reduceLE, Int.reduceLT, Int.reduceEq, Int.reduceNeg, Int.reduceSub, Int.reduceMul, not_false_eq_true, true_and, and_true, and_self, Bool.or_false, Bool.false_or, Bool.or_true, Bool.true_or, List.length_nil, List.length_cons, Nat.zero_le, or_true, true_or, Nat.le_refl, ↓reduceIte, Nat.reduceEqDiff, forall_const, false_and, and_false, false_implies, implies_true, not_true_eq_false, or_false, false_or, ne_eq, jd_X0_search, jf_X0, cs_X0_search, jx_ck_c]
        refine ⟨by omega, fun c => by omega, fun c => ⟨by omega, ?_⟩⟩
        have := ih (k + 1) (jx_u M0 (x + 35) k 0) (by omega) (fun z i q1 q2 => by rw [jx_u_a _ _ _ _ _ _ q1]; exact f1 z i q1 q2) (by rw [jx_u_a _ _ _ _ _ _ (by omega)]; exact f2) (fun j q0 q1 => by
          by_cases c2 : j = k
          · rw [c2, jx_u_eq]
          · rw [jx_u_j _ _ _ _ _ _ c2]; exact f3 j q0 (by omega))
        rw [show (((k + 1 : Nat) : Int)) = (k : Int) + 1 by omega] at this
        exact this
    refine jx_runL (o := jo_X0) (cs := cs_X0_search) (hf := jx_nh) jo_X0_ok hc_X0_search (jx_HK_nil rfl) (fun p => p == 7) 30 ?_
    simp only [jw, ju, jx_tg, Int.cast_ofNat_Int, Int.reduceAdd, Int.reduceToNat, Nat.reduceAdd, Nat.reduceMul, Nat.reduceBEq, Nat.reduceLeDiff, Int.reduceLE, Int.reduceLT, Int.reduceEq, Int.reduceNeg, Int.reduceSub, Int.reduceMul, not_false_eq_true, true_and, and_true, and_self, Bool.or_false, Bool.false_or, Bool.or_true, Bool.true_or, List.length_nil, List.length_cons, Nat.zero_le, or_true, true_or, Nat.le_refl, ↓reduceIte, Nat.reduceEqDiff, forall_const, false_and, and_false, false_implies, implies_true, not_true_eq_false, or_false, false_or, ne_eq, jd_X0_search, jf_X0, cs_X0_search, jx_ck_c]
    exact zero 360 0 (jx_u M x 30 b) rfl (fun z i q1 q2 => if_neg q2) (jx_u_eq _ _ _ _) (fun j q0 q1 => by omega)
  · exact hS.elim
def js_X0_take : jx_Sp := fun as g M Po => match as with
  | [(60, _, x), (0, _, b)] => (0 ≤ M x 5 ∧ M x 5 ≤ 16) ∧ ∀ M' : jx_M, (∀ z k : Int, ¬ (x + 30 ≤ z ∧ z ≤ x + 32) → ¬ (z = x ∧ (k = 25 ∨ k = 26)) → M' z k = M z k) → M' x 25 = 1 → M' x 26 = b → (∀ a, 0 ≤ a → a < M x 5 → M' (x + 30) a = M (x + 33) a ∧ M' (x + 31) a = M (x + 34) a ∧ M' (x + 32) a = b * M (x + 34) a + M (x + 33) a) → Po (3, 0, 0) g M'
  | _ => False
def cs_X0_take : jx_Cs := [(723, 2, 0, 0, js_X0_begin)]
theorem hc_X0_take {D : jx_D} {l : Launch} : jx_CsOK D l "LoopLane" 1 cs_X0_take := List.forall_mem_cons.mpr ⟨jc_X0_241 (jt_X0_begin l) (fun as g M Po (h : js_X0_begin as g M Po) => by unfold js_X0_begin at h; split at h <;> first | exact h.elim | exact ⟨_, _, _, rfl, rfl⟩) (by decide), fun _ h => absurd h List.not_mem_nil⟩
set_option maxHeartbeats 4000000 in
theorem jt_X0_take (l : Launch) : jx_Ct l yX0_take (ws_ yX0_take cX0_take 3 none) 1 0 0 js_X0_take := by
  refine jx_Ct_c (rc := 3) (by decide) rfl (fun D as g M Po hS => ?_)
  unfold js_X0_take at hS
  split at hS
  · rename_i n1 x n2 b
    obtain ⟨h9, hP⟩ := hS
    refine ⟨Nat.le_of_ble_eq_true rfl, ?_⟩
    have loop : ∀ (f k : Nat) (M' : jx_M), (k : Int) + f = M x 5 → (∀ z k : Int, ¬ (x + 30 ≤ z ∧ z ≤ x + 32) → ¬ (z = x ∧ (k = 25 ∨ k = 26)) → M' z k = M z k) → M' x 25 = 1 → M' x 26 = b → (∀ a, 0 ≤ a → a < (k : Int) → M' (x + 30) a = M (x + 33) a ∧ M' (x + 31) a = M (x + 34) a ∧ M' (x + 32) a = b * M (x + 34) a + M (x + 33) a) → jx_V D l (yX0_take.cls, cX0_take, 3, 3, [], 1, 0, 0, yX0_take.name) Po 12 [(60, n1, x), (0, n2, b), (0, 0, (k : Int))] [] (0, 0) g (M') := by
      intro f
      induction f with
      | zero =>
        intro k M' hk k1 k2 k3 k4
        have e5 : M' x 5 = M x 5 := k1 _ _ (by omega) (by omega)
        refine jx_runL (o := jo_X0) (cs := cs_X0_take) (hf := jx_nh) jo_X0_ok hc_X0_take (jx_HK_nil rfl) (fun p => p == 20) 20 ?_
        simp only [jw, ju, jx_tg, Int.cast_ofNat_Int, Int.reduceAdd, Int.reduceToNat, Nat.reduceAdd, Nat.reduceMul, Nat.reduceBEq, Nat.reduceLeDiff, Int.reduceLE, Int.reduceLT, Int.reduceEq, Int.reduceNeg, Int.reduceSub, Int.reduceMul, not_false_eq_true, true_and, and_true, and_self, Bool.or_false, Bool.false_or, Bool.or_true, Bool.true_or, List.length_nil, List.length_cons, Nat.zero_le, or_true, true_or, Nat.le_refl, ↓reduceIte, Nat.reduceEqDiff, forall_const, false_and, and_false, false_implies, implies_true, not_true_eq_false, or_false, false_or, ne_eq, jd_X0_take, jf_X0, e5, js_X0_begin, cs_X0_take, jx_ck_c]
        exact ⟨by omega, fun c => hP M' k1 k2 k3 (fun a a0 a1 => k4 a a0 (by omega)), fun c => by omega⟩
      | succ f ih =>
        intro k M' hk k1 k2 k3 k4
        have e5 : M' x 5 = M x 5 := k1 _ _ (by omega) (by omega)
        have e33 : M' (x + 33) k = M (x + 33) k := k1 _ _ (by omega) (by omega)
        have e34 : M' (x + 34) k = M (x + 34) k := k1 _ _ (by omega) (by omega)
        obtain ⟨M'', hM''⟩ : ∃ q, q = jx_u (jx_u (jx_u M' (x + 30) k (M (x + 33) k)) (x + 31) k (M (x + 34) k)) (x + 32) k (b * M (x + 34) k + M (x + 33) k) := ⟨_, rfl⟩
        have nx := ih (k + 1) M'' (by omega) (fun z i q1 q2 => by rw [hM'', jx_u_a _ _ _ _ _ _ (by omega), jx_u_a _ _ _ _ _ _ (by omega), jx_u_a _ _ _ _ _ _ (by omega)]; exact k1 z i q1 q2) (by rw [hM'', jx_u_a _ _ _ _ _ _ (by omega), jx_u_a _ _ _ _ _ _ (by omega), jx_u_a _ _ _ _ _ _ (by omega)]; exact k2) (by rw [hM'', jx_u_a _ _ _ _ _ _ (by omega), jx_u_a _ _ _ _ _ _ (by omega), jx_u_a _ _ _ _ _ _ (by omega)]; exact k3) (fun a a0 a1 => by
          rw [hM'']
          by_cases c2 : a = k
          · rw [c2]
            refine ⟨?_, ?_, ?_⟩
            · simp (disch := omega) only [jx_u_a, jx_u_eq]
            · simp (disch := omega) only [jx_u_a, jx_u_eq]
            · simp (disch := omega) only [jx_u_a, jx_u_eq]
          · simp (disch := exact c2) only [jx_u_j]
            exact k4 a a0 (by omega))
        rw [show (((k + 1 : Nat) : Int)) = (k : Int) + 1 by omega, hM''] at nx
        refine jx_runL (o := jo_X0) (cs := cs_X0_take) (hf := jx_nh) jo_X0_ok hc_X0_take (jx_HK_nil rfl) (fun p => p == 12) 60 ?_
        simp only [jw, ju, jx_tg, Int.cast_ofNat_Int, Int.reduceAdd, Int.reduceToNat, Nat.reduceAdd, Nat.reduceMul, Nat.reduceBEq, Nat.reduceLeDiff, Int.reduceLE, Int.reduceLT, Int.reduceEq, Int.reduceNeg, Int.reduceSub, Int.reduceMul, not_false_eq_true, true_and, and_true, and_self, Bool.or_false, Bool.false_or, Bool.or_true, Bool.true_or, List.length_nil, List.length_cons, Nat.zero_le, or_true, true_or, Nat.le_refl, ↓reduceIte, Nat.reduceEqDiff, forall_const, false_and, and_false, false_implies, implies_true, not_true_eq_false, or_false, false_or, ne_eq, jd_X0_take, jf_X0, e5, e33, e34, k3, js_X0_begin, cs_X0_take, jx_ck_c]
        exact ⟨by omega, fun c => by omega, fun c => ⟨by omega, by omega, by omega, by omega, by omega, by omega, nx⟩⟩
    refine jx_runL (o := jo_X0) (cs := cs_X0_take) (hf := jx_nh) jo_X0_ok hc_X0_take (jx_HK_nil rfl) (fun p => p == 12) 30 ?_
    simp only [jw, ju, jx_tg, Int.cast_ofNat_Int, Int.reduceAdd, Int.reduceToNat, Nat.reduceAdd, Nat.reduceMul, Nat.reduceBEq, Nat.reduceLeDiff, Int.reduceLE, Int.reduceLT, Int.reduceEq, Int.reduceNeg, Int.reduceSub, Int.reduceMul, not_false_eq_true, true_and, and_true, and_self, Bool.or_false, Bool.false_or, Bool.or_true, Bool.true_or, List.length_nil, List.length_cons, Nat.zero_le, or_true, true_or, Nat.le_refl, ↓reduceIte, Nat.reduceEqDiff, forall_const, false_and, and_false, false_implies, implies_true, not_true_eq_false, or_false, false_or, ne_eq, jd_X0_take, jf_X0, js_X0_begin, cs_X0_take, jx_ck_c]
    exact loop (M x 5).toNat 0 _ (by omega) (fun z i q1 q2 => by rw [show ∀ X v, jx_u X x 25 v z i = X z i from fun X v => if_neg (by omega), show ∀ X v, jx_u X x 26 v z i = X z i from fun X v => if_neg (by omega)]) (jx_u_eq _ _ _ _) (by rw [jx_u_j _ _ _ _ _ _ (by decide), jx_u_eq]) (fun a a0 a1 => by omega)
  · exact hS.elim
