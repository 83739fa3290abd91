/-! ===== the code of a call, in both houses ===== -/
set_option maxRecDepth 20000
set_option maxHeartbeats 4000000
section
variable {d d' : Nat} {I : vJ} {Y : vY} {Q : vE → Prop}
/-- the house: an activation goes, 0 is its answer -/
theorem c_leave0 {t A a nd T : Nat} {p x6 x7 : Int} (hL : vL Y) (h8 : t < 8) (hA : I 1995 t = (A : Int) + 1) (hA2 : A < 40) (hB : I 2009 (40 * t + A) = T) (hT : T < 46088) : vW (d + 3) 177 (279, [vr 1990, vi t, vi a, vi nd, vi p, vr 37, vi x6, vi x7, vi 0], [], (I, Y)) Q ↔ vW (d + 3) 177 (33, [vr 1990, vi t, vi a, vi nd, vi p, vr 37, vi x6, vi x7, vi 0], [], (up (up (up (up (up I 1994 t T) 1995 t A) 1992 T 0) 1993 T 0) 1994 t ((T : Int) + 1), Y)) Q := by
  have e : (A : Int) + 1 - 1 = A := by omega
  rw [b177_279 hL, b170_0 hL, c_act (A := A) hL h8 hA]
  simp only [vWC_s, Nat.reduceAdd]
  rw [b170_14 hL (by omega) (by omega) (by omega) (by omega) (by omega) (by omega)]
  simp only [tn0, vWC_n, Nat.reduceAdd, hB]
  rw [hA, e, b177_284 hL, c_push (T := T) hL h8 (by rw [up_cell _ (by decide), up_same]) hT (by decide)]
  simp only [vWC_n, Nat.reduceAdd, b177_291, c_ok]
/-- the model: the same -/
theorem t_leave0 {X t A a m S : Nat} {x4 : Int} {nd : Nat} (hL : vL Y) (hX : Y.1 2075 7689 = X) (hX2 : X = 2081 ∨ X = 2119) (hV : vreg Y 2081 38 (Y.1 2075 7689)) (h8 : t < 8) (ha : a < 320) (hA : I 2186 t = (A : Int) + 1) (hA2 : A < 40) (hnd : I 2198 (40 * t + A) = nd) (hnd2 : nd < 700) (hk : I (X + 9) nd = 1) (hS : I 2200 a = S) (hS2 : S < 160) : vW (d + 2) 429 (45, [vr 2075, vi t, vi a, vi m, vi x4, vi ((40 * t + A : Nat) : Int)], [], (I, Y)) Q ↔ Q (.inl (some (vi 0)), (up (up (up I 2186 t A) 2206 (160 * a + S) 0) 2200 a ((S : Int) + 1), Y)) := by
  have e : (A : Int) + 1 - 1 = A := by omega
  simp (disch := (first | assumption | omega | (simp only [up_app, Nat.reduceEqDiff, false_and, and_false, true_and, and_true, if_true, if_false, Nat.add_left_cancel_iff, Nat.add_right_cancel_iff, Nat.add_eq_left, Nat.left_eq_add, hX, hnd, tn0, tn1, tn2, tn3, tn4, tn5, tn6, tn7, tn8, tn9]; omega))) only [b429_45, b429_67, hX, hnd, hk, hA, e, b399_0, b429_83, vWC_n, vWC_s, vWC_x, if01a, if01b, if_pos, if_neg, tn0, tn1, tn2, tn3, tn4, tn5, tn6, tn7, tn8, tn9, w32_id, w64_id, Nat.reduceAdd, reduceIte, Int.reduceLT, Int.reduceLE, Int.reduceEq, Int.reduceNe, Int.reduceAdd, Int.reduceSub, Int.reduceMul, Int.reduceNeg, Int.reduceToNat, ne_eq, not_true_eq_false, not_false_eq_true, true_and, and_true, false_and, and_false, true_or, or_true, false_or, or_false, if_true, if_false, and_self, or_self, ite_self]
  rw [t_push (S := S) hL ha (by rw [up_cell _ (by decide)]; exact hS) hS2]
  simp only [vWC_n, Nat.reduceAdd, b429_86]
end
section
variable {d d' : Nat} {Y Y' : vY} {X mm Nn Lp : Nat} {nm pr ht : Nat → Nat} {I I' : vJ} {th t A i W N : Nat} {Q : vE → vE → Prop}
theorem k_call {nd : Nat} {x6 x7 x8 y3 y4 y5 y6 : vV} (hL : vL Y) (hL' : vL Y') (h : IS Y Y' X mm Nn Lp nm pr ht I I' th t A i W N) (hi : (i : Int) < I' (X + 12) (I 2007 (40 * t + (A - 1))).toNat) (hnd : I 2007 (40 * t + (A - 1)) = nd) (hk : I 37 (2 * i) = 10) (hN : nxt (d + 3) (d' + 5) Y Y' X mm Nn Lp nm pr ht th t A i W N nd Q) (hF : flt (d' + 5) Y Y' X mm Nn Lp nm pr ht I th t A W N nd Q) (hS : ∀ J J', AS Y Y' X mm Nn Lp nm pr ht J J' th W N → J 2005 t = 0 → Q (.inl (some (vi 9)), (J, Y)) (.inl none, (J', Y'))) :
    vW (d + 3 + 6) 177 (33, [vr 1990, vi t, vi ((40 * t + (A - 1) : Nat) : Int), vi nd, vi (2 * (i : Int)), vr 37, x6, x7, x8], [], (I, Y)) (fun r => vW (d' + 5 + 6) 422 (2, [vr 2075, vi t, vi 1, y3, y4, y5, y6], [], (I', Y')) (fun r' => Q r r')) := by
  obtain ⟨nd', ct, B, T, ⟨a1, a2, a3, a4⟩, ⟨b1, b2, b3, b3'⟩, ⟨b4, b5, b6, b7⟩, ⟨c1, c2, c3, c4, c5, c6⟩, ⟨v1, v2⟩, ⟨o1, o2, o3⟩, ⟨p1, p2, p3⟩⟩ := IS_at h hi
  have e0 : nd' = nd := by omega
  subst e0
  obtain ⟨hX, hX2, hV⟩ := h.1.1
  have q : I' (X + 27) i = 5 ∧ I' (X + 28) i = I 37 (2 * i + 1) ∧ 0 ≤ I 37 (2 * i + 1) ∧ I 37 (2 * i + 1) < mm ∧ I' (X + 29) i = pr (I 37 (2 * i + 1)).toNat ∧ pr (I 37 (2 * i + 1)).toNat ≤ ht i ∧ ht (i + 1) = ht i - pr (I 37 (2 * i + 1)).toNat + 1 := by
    rcases o1 with o | o | o | o | o | o | o | o | o | o | o
    any_goals (exfalso; omega)
    rcases o.1 with z | z
    · exact ⟨z.2, o.2⟩
    · exfalso; omega
  clear o1
  obtain ⟨q1, q2, q3, q4, q5, q6, q7⟩ := q
  obtain ⟨m, hm⟩ : ∃ m : Nat, I 37 (2 * i + 1) = m := ⟨(I 37 (2 * i + 1)).toNat, by omega⟩
  rw [hm] at q2 q3 q4 q5 q6 q7
  simp only [tn0] at q5 q6 q7
  have hmm : m < mm := by omega
  obtain ⟨o, p, nn, nd0, w0, y0, pp0, oo, ⟨pr1, pr2, pr3, pr4⟩, ⟨nm1, nm2, nm3⟩, _⟩ := ST_entry h.1 hmm
  rw [pr4] at q5 q6 q7
  have mm24 : mm ≤ 24 := h.1.2.1.1.1
  have hIS := h
  obtain ⟨st1, st2, st3, st4, ⟨st5, st6, st7, st8, st9, st10, st11⟩, st12, ⟨⟨r1, r2, r3, r4⟩, ⟨r5, r6⟩, r7, r8, r9, r10, r11, r12⟩⟩ := hIS
  obtain ⟨w1, w2, w3, w4, w5, w6, w7, w8, w9, w10, w11, w12, w13, w14, w15, w16, w17, w18, w19, w20⟩ := st3
  have bgn := w11.2
  have fol := w13.1
  obtain ⟨k1, k2, ⟨k3a, k3b, k3c⟩, k4⟩ := r8 (A - 1) (by omega)
  clear k4
  obtain ⟨tp, htp⟩ : ∃ tp : Nat, I 2010 (40 * t + (A - 1)) = tp := ⟨(I 2010 (40 * t + (A - 1))).toNat, by omega⟩
  obtain ⟨tn, tn1, tn2, tn3, _⟩ := id w1
  -- the model up to its arguments
  have hX29 : X + 29 ≠ 2199 := by clear r10; omega
  have hx29 : up I' 2199 (40 * t + (A - 1)) ((i : Int) + 1) (X + 29) = I' (X + 29) := up_row _ hX29 _ _
  have hm1 : ∀ K : vE → Prop, vW (d' + 5 + 6) 422 (2, [vr 2075, vi t, vi 1, y3, y4, y5, y6], [], (I', Y')) K ↔ vW (d' + 9) 429 (0, [vr 2075, vi t, vi ((40 * t + (A - 1) : Nat) : Int), vi m, vi p, vu], [], (up I' 2199 (40 * t + (A - 1)) ((i : Int) + 1), Y')) (vWC (d' + 10) 423 156 3 [vr 2075, vi t, vi ((40 * t + (A - 1) : Nat) : Int), vi i, vi m, vu, vu] [] (vWC (d' + 11) 422 70 3 [vr 2075, vi t, vi 1, vi ((40 * t + (A - 1) : Nat) : Int), vi nd', vi i, y6] [] K)) := by
    intro K
    rw [t_head_5 (d := d' + 10) hL' hX hX2 hV a1 p1 (by omega) rfl b2 b3 p2 b5 b6 b7 q1, q2, b423_142 hL' hV (by omega) (by omega), hX]
    simp only [tn0, hx29, q5]
  rw [c_head_10 (d := d + 9) hL b3 b4 b6 b7 hk, hm]
  have wA : I' 2186 t = A := r2
  have bg' : I' 2075 7727 = I 1990 3403 := w11.1.symm
  have u1 : up I' 2199 (40 * t + (A - 1)) ((i : Int) + 1) 2186 t = A := by rw [up_cell _ (by decide)]; exact wA
  have u2 : up I' 2199 (40 * t + (A - 1)) ((i : Int) + 1) 2075 7727 = I 1990 3403 := by rw [up_cell _ (by decide)]; exact bg'
  by_cases hfull : A = 40 ∨ I 1990 3403 = 30000
  · have hc : ∀ K : vE → Prop, vW (d + 9) 177 (211, [vr 1990, vi t, vi ((40 * t + (A - 1) : Nat) : Int), vi nd', vi (2 * (i : Int) + 2), vr 37, vi 10, vi m, vi 0], [], (I, Y)) K ↔ K (.inl (some (vi 3)), (flC I 7, Y)) := by
      intro K
      have cf := c_fails (d := d + 8) (I := I) (Y := Y) (Q := vWC (d + 9) 177 235 3 [vr 1990, vi t, vi ((40 * t + (A - 1) : Nat) : Int), vi nd', vi (2 * (i : Int) + 2), vr 37, vi 10, vi m, vi 0] [] K) (f := 7) hL (by decide) (by decide)
      by_cases z : A = 40
      · have r1' : I 1995 t = 40 := by omega
        simp (disch := (first | assumption | omega | (simp only [up_app, Nat.reduceEqDiff, false_and, and_false, true_and, and_true, if_true, if_false, Nat.add_left_cancel_iff, Nat.add_right_cancel_iff, Nat.add_eq_left, Nat.left_eq_add, r1', tn0, tn1, tn2, tn3, tn4, tn5, tn6, tn7, tn8, tn9]; omega))) only [b177_211, b177_232, r1', cf, b177_238, vWC_n, vWC_s, vWC_x, if01a, if01b, if_pos, if_neg, tn0, tn1, tn2, tn3, tn4, tn5, tn6, tn7, tn8, tn9, w32_id, w64_id, Nat.reduceAdd, reduceIte, Int.reduceLT, Int.reduceLE, Int.reduceEq, Int.reduceNe, Int.reduceAdd, Int.reduceSub, Int.reduceMul, Int.reduceNeg, Int.reduceToNat, ne_eq, not_true_eq_false, not_false_eq_true, true_and, and_true, false_and, and_false, true_or, or_true, false_or, or_false, if_true, if_false, and_self, or_self, ite_self]
      · have z2 : I 1990 3403 = 30000 := hfull.resolve_left z
        simp (disch := (first | assumption | omega | (simp only [up_app, Nat.reduceEqDiff, false_and, and_false, true_and, and_true, if_true, if_false, Nat.add_left_cancel_iff, Nat.add_right_cancel_iff, Nat.add_eq_left, Nat.left_eq_add, r1, tn0, tn1, tn2, tn3, tn4, tn5, tn6, tn7, tn8, tn9]; omega))) only [b177_211, b177_222, b177_232, r1, z2, cf, b177_238, vWC_n, vWC_s, vWC_x, if01a, if01b, if_pos, if_neg, tn0, tn1, tn2, tn3, tn4, tn5, tn6, tn7, tn8, tn9, w32_id, w64_id, Nat.reduceAdd, reduceIte, Int.reduceLT, Int.reduceLE, Int.reduceEq, Int.reduceNe, Int.reduceAdd, Int.reduceSub, Int.reduceMul, Int.reduceNeg, Int.reduceToNat, ne_eq, not_true_eq_false, not_false_eq_true, true_and, and_true, false_and, and_false, true_or, or_true, false_or, or_false, if_true, if_false, and_self, or_self, ite_self]
    have ht7 : ∀ K : vE → Prop, vW (d' + 9) 429 (0, [vr 2075, vi t, vi ((40 * t + (A - 1) : Nat) : Int), vi m, vi p, vu], [], (up I' 2199 (40 * t + (A - 1)) ((i : Int) + 1), Y')) K ↔ K (.inl (some (vi 7)), (up I' 2199 (40 * t + (A - 1)) ((i : Int) + 1), Y')) := by
      intro K
      by_cases z : A = 40
      · have u1' : up I' 2199 (40 * t + (A - 1)) ((i : Int) + 1) 2186 t = 40 := by rw [u1]; omega
        simp (disch := (first | assumption | omega | (simp only [up_app, Nat.reduceEqDiff, false_and, and_false, true_and, and_true, if_true, if_false, Nat.add_left_cancel_iff, Nat.add_right_cancel_iff, Nat.add_eq_left, Nat.left_eq_add, u1', tn0, tn1, tn2, tn3, tn4, tn5, tn6, tn7, tn8, tn9]; omega))) only [b429_0, b429_21, u1', vWC_n, vWC_s, vWC_x, if01a, if01b, if_pos, if_neg, tn0, tn1, tn2, tn3, tn4, tn5, tn6, tn7, tn8, tn9, w32_id, w64_id, Nat.reduceAdd, reduceIte, Int.reduceLT, Int.reduceLE, Int.reduceEq, Int.reduceNe, Int.reduceAdd, Int.reduceSub, Int.reduceMul, Int.reduceNeg, Int.reduceToNat, ne_eq, not_true_eq_false, not_false_eq_true, true_and, and_true, false_and, and_false, true_or, or_true, false_or, or_false, if_true, if_false, and_self, or_self, ite_self]
      · have z2 : I 1990 3403 = 30000 := hfull.resolve_left z
        simp (disch := (first | assumption | omega | (simp only [up_app, Nat.reduceEqDiff, false_and, and_false, true_and, and_true, if_true, if_false, Nat.add_left_cancel_iff, Nat.add_right_cancel_iff, Nat.add_eq_left, Nat.left_eq_add, u1, tn0, tn1, tn2, tn3, tn4, tn5, tn6, tn7, tn8, tn9]; omega))) only [b429_0, b429_11, b429_21, u1, u2, z2, vWC_n, vWC_s, vWC_x, if01a, if01b, if_pos, if_neg, tn0, tn1, tn2, tn3, tn4, tn5, tn6, tn7, tn8, tn9, w32_id, w64_id, Nat.reduceAdd, reduceIte, Int.reduceLT, Int.reduceLE, Int.reduceEq, Int.reduceNe, Int.reduceAdd, Int.reduceSub, Int.reduceMul, Int.reduceNeg, Int.reduceToNat, ne_eq, not_true_eq_false, not_false_eq_true, true_and, and_true, false_and, and_false, true_or, or_true, false_or, or_false, if_true, if_false, and_self, or_self, ite_self]
    simp only [hm1, ht7]
    rw [hc]
    simp only [vWC_s, Nat.reduceAdd, b423_159]
    rw [t_bad73 (d := d' + 9) hL' (by decide) (by decide)]
    exact hF _ 7 _ _ (by decide) (by decide) (IS_fail h (fr_upL (fr_refl _ _ _) rfl _ _) (fun b hb => ⟨up_place _ _ hb _, up_cell _ (by decide) _ _ _⟩))
  · have nA : A < 40 := by omega
    have nB : I 1990 3403 < 30000 := by omega
    clear hfull
    have hc : ∀ K : vE → Prop, vW (d + 9) 177 (211, [vr 1990, vi t, vi ((40 * t + (A - 1) : Nat) : Int), vi nd', vi (2 * (i : Int) + 2), vr 37, vi 10, vi m, vi 0], [], (I, Y)) K ↔ vW (d + 8) 146 (0, [vr 1960, vi tp, vi m, vi (I 1990 3396), vu], [], (up I 2008 (40 * t + (A - 1)) (2 * (i : Int) + 2), Y)) (vWC (d + 9) 177 267 3 [vr 1990, vi t, vi ((40 * t + (A - 1) : Nat) : Int), vi nd', vi (2 * (i : Int) + 2), vr 37, vi 10, vi m, vi 0] [vi m, vi t, vr 1990] K) := by
      intro K
      rw [b177_211 hL (by omega) (by omega), tn0, r1, if_neg (by rw [w32_id (by omega) (by omega), w32_id (by omega) (by omega)]; omega), b177_222 hL, if_pos (by rw [w32_id (by omega) (by omega), w32_id (by omega) (by omega)]; omega), b177_239 hL (by omega) (by omega), tn0, htp]
    have ht0 : ∀ K : vE → Prop, vW (d' + 9) 429 (0, [vr 2075, vi t, vi ((40 * t + (A - 1) : Nat) : Int), vi m, vi p, vu], [], (up I' 2199 (40 * t + (A - 1)) ((i : Int) + 1), Y')) K ↔ vW (d' + 8) 430 (0, [vr 2075, vi ((40 * t + (A - 1) : Nat) : Int), vi p, vu], [], (up I' 2199 (40 * t + (A - 1)) ((i : Int) + 1), Y')) (vWC (d' + 9) 429 28 3 [vr 2075, vi t, vi ((40 * t + (A - 1) : Nat) : Int), vi m, vi p, vu] [] K) := by
      intro K
      rw [b429_0 hL' (by omega) (by omega), tn0, u1, if_neg (by rw [w32_id (by omega) (by omega), w32_id (by omega) (by omega)]; omega), b429_11 hL', u2, if_pos (by rw [w32_id (by omega) (by omega), w32_id (by omega) (by omega)]; omega), b429_24 hL']
    rw [hc]
    apply vW_out
    simp only [hm1, ht0]
    refine vW_swap.mpr ?_
    refine t_take (d := d' + 7) (S := ht i - p) (p := p) hL' a4 (by rw [up_cell _ (by decide), p3]; omega) (by omega) pr3 (fun K' g1 g2 g3 => ?_)
    have K3 : fr [2199, 2200, 2263] [] I' K' := fr_trans (fr_upL (fr_refl _ _ _) rfl _ _) (fr_weak g1 (by decide) (by decide))
    have K4 : ∀ b, K' 2199 b = if b = 40 * t + (A - 1) then (i : Int) + 1 else I' 2199 b := fun b => by rw [g1 2199 _ rfl, up_at]
    have K5 : ∀ b, K' 2200 b = if b = 40 * t + (A - 1) then ((ht i - p : Nat) : Int) else I' 2200 b := fun b => by rw [g2, up_cell _ (by decide)]
    have K6 : ∀ j, j < p → K' 2263 j = I' 2206 (160 * (40 * t + (A - 1)) + (ht i - p) + j) := fun j hj => by rw [g3 j hj, up_cell _ (by decide)]
    have K1 : fr [2008] [] I (up I 2008 (40 * t + (A - 1)) (2 * (i : Int) + 2)) := fr_upL (fr_refl _ _ _) rfl _ _
    have K2 : ∀ b, up I 2008 (40 * t + (A - 1)) (2 * (i : Int) + 2) 2008 b = if b = 40 * t + (A - 1) then 2 * (i : Int) + 2 else I 2008 b := fun b => up_at _ _ _ _ _
    generalize up I 2008 (40 * t + (A - 1)) (2 * (i : Int) + 2) = K at K1 K2
    have aT := agT_fr K1 K3 rfl
    have sT := ST_ag st1 aT
    have PK : PT Lp K K' := by
      obtain ⟨q1, q2, q3, q4, q5, q6, q7, q8, q9, q10, q11, q12, q13, q14, q15, q16, q17, q18, q19, q20⟩ := h.2.2.1
      exact ⟨su_keep su_tR K1 K3 rfl q1, su_keep su_pPath K1 K3 rfl q2, su_keep su_loR K1 K3 rfl q3, su_keep su_pArr K1 K3 rfl q4, su_keep su_pStep K1 K3 rfl q5, su_keep su_pKeep K1 K3 rfl q6, su_keep su_pCost K1 K3 rfl q7, su_keep su_pCalls K1 K3 rfl q8, su_keep su_pMet K1 K3 rfl q9, su_keep su_pPrint K1 K3 rfl q10, su_keep su_pBegun K1 K3 rfl q11, su_keep su_pLooks K1 K3 rfl q12, su_keep su_pPar K1 K3 rfl q13, su_keep su_pThr K1 K3 rfl q14, su_keep su_pDone K1 K3 rfl q15, su_keep su_pLast K1 K3 rfl q16, su_keep su_pFor K1 K3 rfl q17, su_keep su_pTurns K1 K3 rfl q18, su_keep su_pSeed K1 K3 rfl q19, su_keep su_pVars K1 K3 rfl q20⟩
    have BK : bud K K' W (ht 5000) := by
      obtain ⟨⟨n, b1, b2⟩, b3, b4⟩ := st4
      have x1 := fr_row K3 2255 (fun _ => rfl)
      have x2 := fr_row K3 2256 (fun _ => rfl)
      refine ⟨⟨n, hR_same b1 (K1 1960 _ rfl) (fr_row K1 1979 (fun _ => rfl)) (fr_row K1 1980 (fun _ => rfl)) (fr_row K1 1981 (fun _ => rfl)) (K3 2075 _ rfl) x1 x2 (fr_row K3 2257 (fun _ => rfl)) (fr_row K3 2258 (fun _ => rfl)), by rw [x1, x2]; exact b2⟩, by rw [K1 1990 _ rfl]; exact b3, ⟨fun j hj => ?_, tot_le b4.2 (fr_row K1 35 (fun _ => rfl)) (fr_row K3 2183 (fun _ => rfl)) (K1 1990 _ rfl)⟩⟩
      rw [K1 2014 j rfl, K1 1990 _ rfl]; exact b4.1 j hj
    have k2201 : K' 2201 (40 * t + (A - 1)) = tp := by rw [K3 2201 _ rfl]; omega
    simp only [vWC_n, Nat.reduceAdd]
    have hm2 : ∀ P : vE → Prop, vW (d' + 9) 429 (31, [vr 2075, vi t, vi ((40 * t + (A - 1) : Nat) : Int), vi m, vi p, vu], [], (K', Y')) P ↔ vW (d' + 8) 401 (0, [vr 2075, vi t, vi m, vi tp, vu, vu], [], (K', Y')) (vWC (d' + 9) 429 40 3 [vr 2075, vi t, vi ((40 * t + (A - 1) : Nat) : Int), vi m, vi p, vu] [] P) := by
      intro P
      rw [b429_31 hL' (by omega) (by omega), tn0, k2201]
    simp only [hm2]
    refine vW_swap.mpr ?_
    refine t_enter1 (d := d' + 7) (A := A) (a := 40 * t + A) (m := m) (p := p) hL' hX hX2 hV a1 (by rw [K3 2186 _ rfl]; exact wA) nA rfl (by omega) (by rw [fr_out K3 2081 2182 (by rfl) (by omega) (by omega)]; exact pr2) pr3 (fun Ka' hKa => ?_)
    have hKa0 := hKa
    obtain ⟨z1, _⟩ := hKa
    apply vW_out
    refine vW_swap.mpr ?_
    have tRK : tR K Ka' := su_keep su_tR (fr_refl [] [] K) z1 rfl PK.1
    refine t_of (d := d + 8) (d' := d' + 7) (n := tn) (p := tp) (m := (m : Int)) (fo := I 1990 3396) hL hL' tRK (by rw [K1 1960 _ rfl]; exact tn2) (by omega) (by omega) fol.2 (by rw [z1 2075 _ rfl, K3 2075 _ rfl]; exact fol.1.symm) (fun J J' n' tr i1 i2 i3 i4 i5 i6 i7 => ?_)
    simp only [vWC_s, Nat.reduceAdd]
    have hWW : W ≤ 20000 := by have := sa_nn (I 1995) t th; omega
    have NE := n_ent2 (d := d) (d' := d') (Y := Y) (Y' := Y') (X := X) (mm := mm) (Nn := Nn) (Lp := Lp) (nm := nm) (pr := pr) (ht := ht) (I0 := K) (I0' := K') (Ia' := Ka') (I := J) (I' := J') (t := t) (A := A) (m := m) (T := T) (W := W) (tr := tr) (n' := n') (x3 := (tp : Int)) (x5 := 16) (Q := fun q q' => vWC (d' + 9) 429 40 3 [vr 2075, vi t, vi ((40 * t + (A - 1) : Nat) : Int), vi m, vi p, vu] [] (vWC (d' + 10) 423 156 3 [vr 2075, vi t, vi ((40 * t + (A - 1) : Nat) : Int), vi i, vi m, vu, vu] [] (vWC (d' + 11) 422 70 3 [vr 2075, vi t, vi 1, vi ((40 * t + (A - 1) : Nat) : Int), vi nd', vi i, y6] [] (fun r' => vWC (d + 9) 177 270 3 [vr 1990, vi t, vi ((40 * t + (A - 1) : Nat) : Int), vi nd', vi (2 * (i : Int) + 2), vr 37, vi 10, vi m, vi 0] [] (fun r => Q r r') q))) q') hL hL' sT PK BK hWW a1 (by rw [K1 1995 _ rfl]; exact r1) nA hmm (by rw [K1 1990 _ rfl]; exact nB) (by rw [K1 1994 _ rfl]; exact c2) (by omega) (by omega) ⟨by rw [K3 2075 _ rfl, st2.1.1.2.1]; omega, by rw [K3 2186 _ rfl]; exact r2⟩ i6 (by rw [pr4]; exact hKa0) i7 i1 i2 i4 i5 (by rw [K1 1960 _ rfl]; omega) ?_
    · obtain ⟨qq, hq, qq', hq', hB⟩ := NE
      refine ⟨qq', hq', vWC_mono (fun _ => vWC_mono (fun _ => vWC_mono (fun r'' hr'' => ?_))) hB⟩
      exact (b177_270 hL).mpr ⟨qq, hq, hr''⟩
    · intro JF JF' p' nn' y e1 e2 e3 e4 e5 e6 e7 e8 e9 e10 e11
      clear e11
      have ep : p' = p := by omega
      subst ep
      have en : nn' = nn := by omega
      subst en
      have k38 : K 38 y = I 38 y := K1 38 _ rfl
      rw [k38] at e10 ⊢
      by_cases zy : I 38 y = 1
      · rw [if_pos zy]
        simp only [vWC_s, Nat.reduceAdd]
        have E9 := e9
        obtain ⟨f1, f2, ⟨_, _, _, f6, _, f8, _⟩, ⟨f10, f11⟩, ⟨_, f13, _, _, _, _, _, _⟩, _, _⟩ := E9
        have x9 : JF' (X + 9) y = 1 := by
          rw [fr_out f2 2081 2182 (by rfl) (by omega) (by omega), fr_out K3 2081 2182 (by rfl) (by omega) (by omega), ← (st1.2.2.2.2.1 y e5).1.1]; exact zy
        have m1 : JF' 2186 t = (A : Int) + 1 := by rw [f11, if_pos rfl]
        have m2 : JF' 2198 (40 * t + A) = y := by rw [f13, if_pos rfl]
        have m3 : JF' 2200 (40 * t + (A - 1)) = ((ht i - p' : Nat) : Int) := by rw [f8, if_neg (by omega), K5, if_pos rfl]
        have h1 : JF 1995 t = (A : Int) + 1 := by rw [f10, if_pos rfl]
        have h2 : JF 2009 (40 * t + A) = ((T - p' : Nat) : Int) := by rw [f6, if_pos rfl]; omega
        simp only [b429_43]
        rw [t_leave0 (d := d' + 7) (A := A) (nd := y) (S := ht i - p') hL' hX hX2 hV a1 a4 m1 nA m2 (by have := st1.2.1.2; omega) x9 m3 (by omega)]
        simp only [vWC_s, Nat.reduceAdd, b423_159]
        rw [t_ok73 (d := d' + 10)]
        have hcc : ∀ P : vE → Prop, vW (d + 9) 177 (273, [vr 1990, vi t, vi ((40 * t + (A - 1) : Nat) : Int), vi nd', vi (2 * (i : Int) + 2), vr 37, vi 10, vi m, vi 0], [vi 1], (JF, Y)) P ↔ vW (d + 9) 177 (33, [vr 1990, vi t, vi ((40 * t + (A - 1) : Nat) : Int), vi nd', vi (2 * (i : Int) + 2), vr 37, vi 10, vi m, vi 0], [], (up (up (up (up (up JF 1994 t ((T - p' : Nat) : Int)) 1995 t (A : Int)) 1992 (T - p') 0) 1993 (T - p') 0) 1994 t (((T - p' : Nat) : Int) + 1), Y)) P := fun P => by
          rw [b177_273, if_pos (by rw [w32_id (by decide) (by decide)]; decide)]
          exact c_leave0 (d := d + 6) (A := A) (T := T - p') hL a1 h1 nA h2 (by omega)
        simp only [hcc]
        refine vW_swap.mp ?_
        rw [show 2 * (i : Int) + 2 = 2 * ((i + 1 : Nat) : Int) by omega]
        have J1f : fr [1992, 1993, 1994, 1995] [] JF (up (up (up (up (up JF 1994 t ((T - p' : Nat) : Int)) 1995 t (A : Int)) 1992 (T - p') 0) 1993 (T - p') 0) 1994 t (((T - p' : Nat) : Int) + 1)) := fr_upL (fr_upL (fr_upL (fr_upL (fr_upL (fr_refl _ _ _) rfl _ _) rfl _ _) rfl _ _) rfl _ _) rfl _ _
        have J2f : fr [2186, 2200, 2206] [] JF' (up (up (up JF' 2186 t (A : Int)) 2206 (160 * (40 * t + (A - 1)) + (ht i - p')) 0) 2200 (40 * t + (A - 1)) (((ht i - p' : Nat) : Int) + 1)) := fr_upL (fr_upL (fr_upL (fr_refl _ _ _) rfl _ _) rfl _ _) rfl _ _
        refine hN _ _ _ _ _ _ _ _ _ (enF_IS (K := K) (K' := K') (J := JF) (J' := JF') (m := m) (T := T) (p := p') (nn := nn') (y := y) (tr := tr) h hi nA ⟨q6, q7⟩ o3 c2 (by omega) e2 e3 K1 K2 K3 K4 K5 K6 e7 e8 e9 zy J1f (fun q => ?_) (fun q => ?_) (fun u => ?_) (fun u => ?_) J2f (fun u => ?_) (fun b => ?_) (fun q => ?_)) ?_
        · simp (disch := decide) only [up_cell, up_at]
        · simp (disch := decide) only [up_cell, up_at]
        · simp (disch := decide) only [up_cell, up_at]
          by_cases z : u = t
          · simp only [z, if_true]
          · simp only [z, if_false]
        · simp (disch := decide) only [up_cell, up_at]
        · simp (disch := decide) only [up_cell, up_at]
        · simp (disch := decide) only [up_cell, up_at]
        · simp (disch := decide) only [up_cell, up_at]
        · rw [J1f 2007 _ rfl]
          obtain ⟨_, _, _, _, ⟨f12, _⟩, _⟩ := e9
          rw [f12, if_neg (by omega), K1 2007 _ rfl]; exact hnd
      · rw [if_neg zy]
        simp only [vWC_s, Nat.reduceAdd]
        have ac := e10 zy
        have E9 := e9
        obtain ⟨f1, f2, _, _, ⟨_, f13, _⟩, _, _⟩ := E9
        have x9 : JF' (X + 9) y = I 38 y := by
          rw [fr_out f2 2081 2182 (by rfl) (by omega) (by omega), fr_out K3 2081 2182 (by rfl) (by omega) (by omega), ← (st1.2.2.2.2.1 y e5).1.1]
        have m2 : JF' 2198 (40 * t + A) = y := by rw [f13, if_pos rfl]
        have k16 := (st1.2.2.2.2.1 y e5).1.2
        have y7 : y < 700 := by have := st1.2.1.2; omega
        have hcm : ∀ P : vE → Prop, vW (d' + 9) 429 (43, [vr 2075, vi t, vi ((40 * t + (A - 1) : Nat) : Int), vi m, vi p', vu], [vi ((40 * t + A : Nat) : Int)], (JF', Y')) P ↔ P (.inl (some (vi (-2))), (JF', Y')) := by
          intro P
          rw [b429_43, b429_45 hL' hV (by omega) (by omega) (by rw [tn0, m2]; omega) (by rw [tn0, m2]; omega), hX, tn0, m2, tn0, x9, if_neg (by rw [w32_id (by omega) (by omega), w32_id (by omega) (by omega)]; exact zy), b429_64]
        rw [hcm]
        simp only [vWC_s, Nat.reduceAdd, b423_159]
        have hcc : ∀ P : vE → Prop, vW (d + 9) 177 (273, [vr 1990, vi t, vi ((40 * t + (A - 1) : Nat) : Int), vi nd', vi (2 * (i : Int) + 2), vr 37, vi 10, vi m, vi 0], [vi 0], (JF, Y)) P ↔ P (.inl (some (vi 9)), (JF, Y)) := fun P => by
          simp (disch := (first | assumption | omega | (simp only [up_app, Nat.reduceEqDiff, false_and, and_false, true_and, and_true, if_true, if_false, Nat.add_left_cancel_iff, Nat.add_right_cancel_iff, Nat.add_eq_left, Nat.left_eq_add, tn0, tn1, tn2, tn3, tn4, tn5, tn6, tn7, tn8, tn9]; omega))) only [b177_273, b177_276, vWC_n, vWC_s, vWC_x, if01a, if01b, if_pos, if_neg, tn0, tn1, tn2, tn3, tn4, tn5, tn6, tn7, tn8, tn9, w32_id, w64_id, Nat.reduceAdd, reduceIte, Int.reduceLT, Int.reduceLE, Int.reduceEq, Int.reduceNe, Int.reduceAdd, Int.reduceSub, Int.reduceMul, Int.reduceNeg, Int.reduceToNat, ne_eq, not_true_eq_false, not_false_eq_true, true_and, and_true, false_and, and_false, true_or, or_true, false_or, or_false, if_true, if_false, and_self, or_self, ite_self]
        simp only [hcc]
        simp (disch := (first | assumption | omega | (simp only [up_app, Nat.reduceEqDiff, false_and, and_false, true_and, and_true, if_true, if_false, Nat.add_left_cancel_iff, Nat.add_right_cancel_iff, Nat.add_eq_left, Nat.left_eq_add, tn0, tn1, tn2, tn3, tn4, tn5, tn6, tn7, tn8, tn9]; omega))) only [b422_73, b422_75, b422_82, b422_106, b422_118, b422_2, b422_121, vWC_n, vWC_s, vWC_x, if01a, if01b, if_pos, if_neg, tn0, tn1, tn2, tn3, tn4, tn5, tn6, tn7, tn8, tn9, w32_id, w64_id, Nat.reduceAdd, reduceIte, Int.reduceLT, Int.reduceLE, Int.reduceEq, Int.reduceNe, Int.reduceAdd, Int.reduceSub, Int.reduceMul, Int.reduceNeg, Int.reduceToNat, ne_eq, not_true_eq_false, not_false_eq_true, true_and, and_true, false_and, and_false, true_or, or_true, false_or, or_false, if_true, if_false, and_self, or_self, ite_self]
        exact hS JF JF' (enF_AS (K := K) (K' := K') (m := m) (T := T) (p := p') (nn := nn') (y := y) (tr := tr) h hi nA ⟨q6, q7⟩ c2 e2 e3 e5 (by rw [← K1 42 _ rfl]; exact ac.2) K1 K2 K3 K4 K5 K6 e7 e8 e9 ac.1) (by rw [f1 2005 _ rfl, K1 2005 _ rfl]; exact r6)
end
