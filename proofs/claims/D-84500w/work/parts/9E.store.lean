/-! ===== node STORE ===== -/
set_option maxRecDepth 20000
set_option maxHeartbeats 4000000
section
variable {d d' : Nat} {Y Y' : vY} {I I' : vJ}
/-- may this place of this array be had: both houses -/
theorem w_chk {T n E : Nat} {x y : Int} (hL : vL Y) (hL' : vL Y') (ar : aR I I' n E) (hT3 : T + 1 < 46088) (vx : vv n (I 1992 T) (I 1993 T) x) (vy : vv n (I 1992 (T + 1)) (I 1993 (T + 1)) y) : ∃ f : Int, (∀ K : vE → Prop, vW d 181 (0, [vr 1990, vi T, vi ((T : Int) + 1)], [], (I, Y)) K ↔ K (.inl (some (vi f)), (I, Y))) ∧ (∀ K : vE → Prop, vW (d' + 1) 426 (0, [vr 2075, vl x, vu, vl y, vu], [], (I', Y')) K ↔ K (.inl (some (vi f)), (I', Y'))) ∧ ((2 ≤ f ∧ f ≤ 4) ∨ f = 0 ∧ ∃ k z g : Nat, k < n ∧ I 1993 T = k ∧ x / 4 = k ∧ I 1993 (T + 1) = z ∧ y / 4 = z ∧ I 2027 k = g ∧ I' 2223 k = g ∧ g + z < E) := by
  obtain ⟨⟨a1, a2⟩, a3, ⟨a4, a4'⟩, a5, a6, a7⟩ := ar
  obtain ⟨jx, kx, ux⟩ := vv_inV (by omega) vx
  obtain ⟨jy, ky, uy⟩ := vv_inV (by omega) vy
  have tt : ((T : Int) + 1).toNat = T + 1 := by omega
  rcases vx with ⟨x1, x2, x3, x4⟩ | ⟨x1, x2, x3, x4⟩ | ⟨x1, x2, x3⟩
  · refine ⟨4, fun K => ?_, fun K => ?_, Or.inl (by omega)⟩
    · simp (disch := (first | assumption | omega | (simp only [up_app, Nat.reduceEqDiff, false_and, and_false, true_and, and_true, if_true, if_false, Nat.add_left_cancel_iff, Nat.add_right_cancel_iff, Nat.add_eq_left, Nat.left_eq_add, tn0, tn1, tn2, tn3, tn4, tn5, tn6, tn7, tn8, tn9]; omega))) only [b181_0, m181_10, b181_20, b181_24, b181_25, b181_26, b181_35, m181_37, m181_46, b181_66, b181_70, b181_71, x1, vWC_n, vWC_s, vWC_x, if01a, if01b, if_pos, if_neg, tn0, tn1, tn2, tn3, tn4, tn5, tn6, tn7, tn8, tn9, w32_id, w64_id, Nat.reduceAdd, reduceIte, Int.reduceLT, Int.reduceLE, Int.reduceEq, Int.reduceNe, Int.reduceAdd, Int.reduceSub, Int.reduceMul, Int.reduceNeg, Int.reduceToNat, ne_eq, not_true_eq_false, not_false_eq_true, true_and, and_true, false_and, and_false, true_or, or_true, false_or, or_false, if_true, if_false, and_self, or_self, ite_self]
    · simp (disch := (first | assumption | omega | (simp only [up_app, Nat.reduceEqDiff, false_and, and_false, true_and, and_true, if_true, if_false, Nat.add_left_cancel_iff, Nat.add_right_cancel_iff, Nat.add_eq_left, Nat.left_eq_add, tn0, tn1, tn2, tn3, tn4, tn5, tn6, tn7, tn8, tn9]; omega))) only [b426_0, b426_4, b426_7, m426_11, b426_14, b426_18, b426_19, b426_20, b426_24, b426_27, b426_29, b426_33, b426_38, b426_42, m426_50, b426_57, b426_61, b426_62, t_isArr jx, t_isNum jx, vWC_n, vWC_s, vWC_x, if01a, if01b, if_pos, if_neg, tn0, tn1, tn2, tn3, tn4, tn5, tn6, tn7, tn8, tn9, w32_id, w64_id, Nat.reduceAdd, reduceIte, Int.reduceLT, Int.reduceLE, Int.reduceEq, Int.reduceNe, Int.reduceAdd, Int.reduceSub, Int.reduceMul, Int.reduceNeg, Int.reduceToNat, ne_eq, not_true_eq_false, not_false_eq_true, true_and, and_true, false_and, and_false, true_or, or_true, false_or, or_false, if_true, if_false, and_self, or_self, ite_self]
  · obtain ⟨k, hk⟩ : ∃ k : Nat, I 1993 T = k := ⟨(I 1993 T).toNat, by omega⟩
    have b := a6 k (by omega)
    have g1 : (4 * (k : Int) + 1) / 4 = k := by omega
    rw [hk] at x2
    rw [x2] at jx
    rw [x2]
    rcases vy with ⟨y1, y2, y3, y4⟩ | ⟨y1, y2, y3, y4⟩ | ⟨y1, y2, y3⟩
    · have g2 : 4 * I 1993 (T + 1) / 4 = I 1993 (T + 1) := by omega
      rw [y2] at jy
      rw [y2]
      by_cases r1 : 0 ≤ I 1993 (T + 1) ∧ I 1993 (T + 1) < I 2028 k
      · obtain ⟨z, hz⟩ : ∃ z : Nat, I 1993 (T + 1) = z := ⟨(I 1993 (T + 1)).toNat, by omega⟩
        rw [hz] at jy g2 ⊢
        obtain ⟨f, hf⟩ : ∃ f : Nat, I 2027 k = f := ⟨(I 2027 k).toNat, by omega⟩
        have hf' : I' 2223 k = f := by omega
        refine ⟨0, fun K => ?_, fun K => ?_, Or.inr ⟨rfl, k, z, f, by omega, hk, g1, rfl, g2, hf, hf', by omega⟩⟩
        · simp (disch := (first | assumption | omega | (simp only [up_app, Nat.reduceEqDiff, false_and, and_false, true_and, and_true, if_true, if_false, Nat.add_left_cancel_iff, Nat.add_right_cancel_iff, Nat.add_eq_left, Nat.left_eq_add, hk, hz, hf, tn0, tn1, tn2, tn3, tn4, tn5, tn6, tn7, tn8, tn9]; omega))) only [b181_0, m181_10, b181_20, b181_24, b181_25, b181_26, b181_35, m181_37, m181_46, b181_66, b181_70, b181_71, x1, y1, tt, hk, hz, hf, vWC_n, vWC_s, vWC_x, if01a, if01b, if_pos, if_neg, tn0, tn1, tn2, tn3, tn4, tn5, tn6, tn7, tn8, tn9, w32_id, w64_id, Nat.reduceAdd, reduceIte, Int.reduceLT, Int.reduceLE, Int.reduceEq, Int.reduceNe, Int.reduceAdd, Int.reduceSub, Int.reduceMul, Int.reduceNeg, Int.reduceToNat, ne_eq, not_true_eq_false, not_false_eq_true, true_and, and_true, false_and, and_false, true_or, or_true, false_or, or_false, if_true, if_false, and_self, or_self, ite_self]
        · simp (disch := (first | assumption | omega | (simp only [up_app, Nat.reduceEqDiff, false_and, and_false, true_and, and_true, if_true, if_false, Nat.add_left_cancel_iff, Nat.add_right_cancel_iff, Nat.add_eq_left, Nat.left_eq_add, tn0, tn1, tn2, tn3, tn4, tn5, tn6, tn7, tn8, tn9]; omega))) only [b426_0, b426_4, b426_7, m426_11, b426_14, b426_18, b426_19, b426_20, b426_24, b426_27, b426_29, b426_33, b426_38, b426_42, m426_50, b426_57, b426_61, b426_62, t_isArr jx, t_isNum jx, t_isNum jy, t_val jx, t_val jy, g1, g2, hz, hf', vWC_n, vWC_s, vWC_x, if01a, if01b, if_pos, if_neg, tn0, tn1, tn2, tn3, tn4, tn5, tn6, tn7, tn8, tn9, w32_id, w64_id, Nat.reduceAdd, reduceIte, Int.reduceLT, Int.reduceLE, Int.reduceEq, Int.reduceNe, Int.reduceAdd, Int.reduceSub, Int.reduceMul, Int.reduceNeg, Int.reduceToNat, ne_eq, not_true_eq_false, not_false_eq_true, true_and, and_true, false_and, and_false, true_or, or_true, false_or, or_false, if_true, if_false, and_self, or_self, ite_self]
      · refine ⟨2, fun K => ?_, fun K => ?_, Or.inl (by omega)⟩
        · simp (disch := (first | assumption | omega | (simp only [up_app, Nat.reduceEqDiff, false_and, and_false, true_and, and_true, if_true, if_false, Nat.add_left_cancel_iff, Nat.add_right_cancel_iff, Nat.add_eq_left, Nat.left_eq_add, hk, tn0, tn1, tn2, tn3, tn4, tn5, tn6, tn7, tn8, tn9]; omega))) only [b181_0, m181_10, b181_20, b181_24, b181_25, b181_26, b181_35, m181_37, m181_46, b181_66, b181_70, b181_71, x1, y1, tt, hk, vWC_n, vWC_s, vWC_x, if01a, if01b, if_pos, if_neg, tn0, tn1, tn2, tn3, tn4, tn5, tn6, tn7, tn8, tn9, w32_id, w64_id, Nat.reduceAdd, reduceIte, Int.reduceLT, Int.reduceLE, Int.reduceEq, Int.reduceNe, Int.reduceAdd, Int.reduceSub, Int.reduceMul, Int.reduceNeg, Int.reduceToNat, ne_eq, not_true_eq_false, not_false_eq_true, true_and, and_true, false_and, and_false, true_or, or_true, false_or, or_false, if_true, if_false, and_self, or_self, ite_self]
        · simp (disch := (first | assumption | omega | (simp only [up_app, Nat.reduceEqDiff, false_and, and_false, true_and, and_true, if_true, if_false, Nat.add_left_cancel_iff, Nat.add_right_cancel_iff, Nat.add_eq_left, Nat.left_eq_add, tn0, tn1, tn2, tn3, tn4, tn5, tn6, tn7, tn8, tn9]; omega))) only [b426_0, b426_4, b426_7, m426_11, b426_14, b426_18, b426_19, b426_20, b426_24, b426_27, b426_29, b426_33, b426_38, b426_42, m426_50, b426_57, b426_61, b426_62, t_isArr jx, t_isNum jx, t_isNum jy, t_val jx, t_val jy, g1, g2, vWC_n, vWC_s, vWC_x, if01a, if01b, if_pos, if_neg, tn0, tn1, tn2, tn3, tn4, tn5, tn6, tn7, tn8, tn9, w32_id, w64_id, Nat.reduceAdd, reduceIte, Int.reduceLT, Int.reduceLE, Int.reduceEq, Int.reduceNe, Int.reduceAdd, Int.reduceSub, Int.reduceMul, Int.reduceNeg, Int.reduceToNat, ne_eq, not_true_eq_false, not_false_eq_true, true_and, and_true, false_and, and_false, true_or, or_true, false_or, or_false, if_true, if_false, and_self, or_self, ite_self]
    · refine ⟨4, fun K => ?_, fun K => ?_, Or.inl (by omega)⟩
      · simp (disch := (first | assumption | omega | (simp only [up_app, Nat.reduceEqDiff, false_and, and_false, true_and, and_true, if_true, if_false, Nat.add_left_cancel_iff, Nat.add_right_cancel_iff, Nat.add_eq_left, Nat.left_eq_add, tn0, tn1, tn2, tn3, tn4, tn5, tn6, tn7, tn8, tn9]; omega))) only [b181_0, m181_10, b181_20, b181_24, b181_25, b181_26, b181_35, m181_37, m181_46, b181_66, b181_70, b181_71, x1, y1, tt, vWC_n, vWC_s, vWC_x, if01a, if01b, if_pos, if_neg, tn0, tn1, tn2, tn3, tn4, tn5, tn6, tn7, tn8, tn9, w32_id, w64_id, Nat.reduceAdd, reduceIte, Int.reduceLT, Int.reduceLE, Int.reduceEq, Int.reduceNe, Int.reduceAdd, Int.reduceSub, Int.reduceMul, Int.reduceNeg, Int.reduceToNat, ne_eq, not_true_eq_false, not_false_eq_true, true_and, and_true, false_and, and_false, true_or, or_true, false_or, or_false, if_true, if_false, and_self, or_self, ite_self]
      · simp (disch := (first | assumption | omega | (simp only [up_app, Nat.reduceEqDiff, false_and, and_false, true_and, and_true, if_true, if_false, Nat.add_left_cancel_iff, Nat.add_right_cancel_iff, Nat.add_eq_left, Nat.left_eq_add, tn0, tn1, tn2, tn3, tn4, tn5, tn6, tn7, tn8, tn9]; omega))) only [b426_0, b426_4, b426_7, m426_11, b426_14, b426_18, b426_19, b426_20, b426_24, b426_27, b426_29, b426_33, b426_38, b426_42, m426_50, b426_57, b426_61, b426_62, t_isArr jx, t_isNum jx, t_isNum jy, vWC_n, vWC_s, vWC_x, if01a, if01b, if_pos, if_neg, tn0, tn1, tn2, tn3, tn4, tn5, tn6, tn7, tn8, tn9, w32_id, w64_id, Nat.reduceAdd, reduceIte, Int.reduceLT, Int.reduceLE, Int.reduceEq, Int.reduceNe, Int.reduceAdd, Int.reduceSub, Int.reduceMul, Int.reduceNeg, Int.reduceToNat, ne_eq, not_true_eq_false, not_false_eq_true, true_and, and_true, false_and, and_false, true_or, or_true, false_or, or_false, if_true, if_false, and_self, or_self, ite_self]
    · refine ⟨4, fun K => ?_, fun K => ?_, Or.inl (by omega)⟩
      · simp (disch := (first | assumption | omega | (simp only [up_app, Nat.reduceEqDiff, false_and, and_false, true_and, and_true, if_true, if_false, Nat.add_left_cancel_iff, Nat.add_right_cancel_iff, Nat.add_eq_left, Nat.left_eq_add, tn0, tn1, tn2, tn3, tn4, tn5, tn6, tn7, tn8, tn9]; omega))) only [b181_0, m181_10, b181_20, b181_24, b181_25, b181_26, b181_35, m181_37, m181_46, b181_66, b181_70, b181_71, x1, y1, tt, vWC_n, vWC_s, vWC_x, if01a, if01b, if_pos, if_neg, tn0, tn1, tn2, tn3, tn4, tn5, tn6, tn7, tn8, tn9, w32_id, w64_id, Nat.reduceAdd, reduceIte, Int.reduceLT, Int.reduceLE, Int.reduceEq, Int.reduceNe, Int.reduceAdd, Int.reduceSub, Int.reduceMul, Int.reduceNeg, Int.reduceToNat, ne_eq, not_true_eq_false, not_false_eq_true, true_and, and_true, false_and, and_false, true_or, or_true, false_or, or_false, if_true, if_false, and_self, or_self, ite_self]
      · simp (disch := (first | assumption | omega | (simp only [up_app, Nat.reduceEqDiff, false_and, and_false, true_and, and_true, if_true, if_false, Nat.add_left_cancel_iff, Nat.add_right_cancel_iff, Nat.add_eq_left, Nat.left_eq_add, tn0, tn1, tn2, tn3, tn4, tn5, tn6, tn7, tn8, tn9]; omega))) only [b426_0, b426_4, b426_7, m426_11, b426_14, b426_18, b426_19, b426_20, b426_24, b426_27, b426_29, b426_33, b426_38, b426_42, m426_50, b426_57, b426_61, b426_62, t_isArr jx, t_isNum jx, t_isNum jy, vWC_n, vWC_s, vWC_x, if01a, if01b, if_pos, if_neg, tn0, tn1, tn2, tn3, tn4, tn5, tn6, tn7, tn8, tn9, w32_id, w64_id, Nat.reduceAdd, reduceIte, Int.reduceLT, Int.reduceLE, Int.reduceEq, Int.reduceNe, Int.reduceAdd, Int.reduceSub, Int.reduceMul, Int.reduceNeg, Int.reduceToNat, ne_eq, not_true_eq_false, not_false_eq_true, true_and, and_true, false_and, and_false, true_or, or_true, false_or, or_false, if_true, if_false, and_self, or_self, ite_self]
  · refine ⟨3, fun K => ?_, fun K => ?_, Or.inl (by omega)⟩
    · simp (disch := (first | assumption | omega | (simp only [up_app, Nat.reduceEqDiff, false_and, and_false, true_and, and_true, if_true, if_false, Nat.add_left_cancel_iff, Nat.add_right_cancel_iff, Nat.add_eq_left, Nat.left_eq_add, tn0, tn1, tn2, tn3, tn4, tn5, tn6, tn7, tn8, tn9]; omega))) only [b181_0, m181_10, b181_20, b181_24, b181_25, b181_26, b181_35, m181_37, m181_46, b181_66, b181_70, b181_71, x1, vWC_n, vWC_s, vWC_x, if01a, if01b, if_pos, if_neg, tn0, tn1, tn2, tn3, tn4, tn5, tn6, tn7, tn8, tn9, w32_id, w64_id, Nat.reduceAdd, reduceIte, Int.reduceLT, Int.reduceLE, Int.reduceEq, Int.reduceNe, Int.reduceAdd, Int.reduceSub, Int.reduceMul, Int.reduceNeg, Int.reduceToNat, ne_eq, not_true_eq_false, not_false_eq_true, true_and, and_true, false_and, and_false, true_or, or_true, false_or, or_false, if_true, if_false, and_self, or_self, ite_self]
    · simp (disch := (first | assumption | omega | (simp only [up_app, Nat.reduceEqDiff, false_and, and_false, true_and, and_true, if_true, if_false, Nat.add_left_cancel_iff, Nat.add_right_cancel_iff, Nat.add_eq_left, Nat.left_eq_add, tn0, tn1, tn2, tn3, tn4, tn5, tn6, tn7, tn8, tn9]; omega))) only [b426_0, b426_4, b426_7, m426_11, b426_14, b426_18, b426_19, b426_20, b426_24, b426_27, b426_29, b426_33, b426_38, b426_42, m426_50, b426_57, b426_61, b426_62, t_isArr jx, t_isNum jx, vWC_n, vWC_s, vWC_x, if01a, if01b, if_pos, if_neg, tn0, tn1, tn2, tn3, tn4, tn5, tn6, tn7, tn8, tn9, w32_id, w64_id, Nat.reduceAdd, reduceIte, Int.reduceLT, Int.reduceLE, Int.reduceEq, Int.reduceNe, Int.reduceAdd, Int.reduceSub, Int.reduceMul, Int.reduceNeg, Int.reduceToNat, ne_eq, not_true_eq_false, not_false_eq_true, true_and, and_true, false_and, and_false, true_or, or_true, false_or, or_false, if_true, if_false, and_self, or_self, ite_self]
end
section
variable {d d' : Nat} {Y Y' : vY} {X mm Nn Lp : Nat} {nm pr ht : Nat → Nat} {I I' : vJ} {th t A i W N : Nat} {Q : vE → vE → Prop}
theorem e_store {nd w : Nat} {x6 x7 x8 y3 y4 y5 y6 : vV} (hL : vL Y) (hL' : vL Y') (h : IS Y Y' X mm Nn Lp nm pr ht I I' th t A i W N) (hi : ¬ (i : Int) < I' (X + 12) (I 2007 (40 * t + (A - 1))).toNat) (hnd : I 2007 (40 * t + (A - 1)) = nd) (hw : I 48 nd = w) (hk : I 38 nd = 4)
    (hOn : ∀ (J J' : vJ), IFs Y Y' X mm Nn Lp nm pr ht J J' th t A W N → J 2007 (40 * t + (A - 1)) = nd → J 38 = I 38 → J 48 = I 48 → J 1994 t = J 2009 (40 * t + (A - 1)) + nm (J 2006 (40 * t + (A - 1))).toNat → onw (d' + 8) (d' + 11) Y Y' t (40 * t + (A - 1)) nd w y5 y6 0 J J' Q)
    (hFl : ∀ (J' : vJ) (f : Int), 1 ≤ f → f ≤ 9 → IFs Y Y' X mm Nn Lp nm pr ht I J' th t A W N → fln (d' + 8) (d' + 11) Y Y' t (40 * t + (A - 1)) nd y5 y6 f I J' Q) :
    vW (d + 9) 177 (33, [vr 1990, vi t, vi ((40 * t + (A - 1) : Nat) : Int), vi nd, vi (2 * (i : Int)), vr 37, x6, x7, x8], [], (I, Y)) (fun r => vW (d' + 11) 422 (2, [vr 2075, vi t, vi 1, y3, y4, y5, y6], [], (I', Y')) (fun r' => Q r r')) := by
  obtain ⟨nd', B, T, w', ⟨a1, a2, a3, a4⟩, ⟨b1, b2, b3, b3'⟩, ⟨b4, b5, b6⟩, ⟨c1, c2, c3⟩, ⟨c4, c5⟩, c6, ⟨c7, c8, c9, c10, c11, c12⟩, ⟨v1, v2⟩, ⟨p1, p2, p3⟩⟩ := IS_end h hi
  have e0 : nd' = nd := by omega
  subst e0
  have e1 : w' = w := by omega
  subst e1
  obtain ⟨hX, hX2, hV⟩ := h.1.1
  have hv1 : wkV (I 38 nd') = 3 := by rw [hk]; decide
  rw [c6, hv1] at p3 c9
  obtain ⟨p, hp⟩ : ∃ p : Nat, p = B + nm (I 2006 (40 * t + (A - 1))).toNat := ⟨_, rfl⟩
  have vt0 := v2 0 (by rw [c6, hv1]; decide)
  have vt1 := v2 1 (by rw [c6, hv1]; decide)
  have vt2 := v2 2 (by rw [c6, hv1]; decide)
  rw [Nat.add_zero, Nat.add_zero, ← hp] at vt0
  rw [← hp] at vt1 vt2
  obtain ⟨n, En, ar⟩ := h.2.2.1.2.2.2.1
  have arn : I 1990 3376 = n := ar.1.1
  have ar3 := ar.2.1
  rw [arn] at vt0 vt1 vt2
  obtain ⟨j1, j2, j3⟩ := vv_inV (by omega) vt0
  obtain ⟨k1, k2, k3⟩ := vv_inV (by omega) vt1
  obtain ⟨l1, l2, l3⟩ := vv_inV (by omega) vt2
  have hN : I 1990 3388 = N := h.2.2.2.2.1.2.2.1
  have hN' : I' 2075 7729 = N := h.2.2.2.2.1.2.2.2.1
  have hm : ∀ K : vE → Prop, vW (d' + 11) 422 (2, [vr 2075, vi t, vi 1, y3, y4, y5, y6], [], (I', Y')) K ↔ vW (d' + 10) 443 (0, [vr 2075, vi t, vi ((40 * t + (A - 1) : Nat) : Int), vi nd', vu, vu, vu], [], (I', Y')) (vWC (d' + 11) 422 114 3 [vr 2075, vi t, vi 1, vi ((40 * t + (A - 1) : Nat) : Int), vi nd', y5, y6] [] K) := fun K => t_end (X := X) hL' hX hV a1 rfl a4 p1 b2 b3 b5 b6 p2
  have F2 : fr [2199, 2200] [] I' (up I' 2200 (40 * t + (A - 1)) ((0 : Nat) : Int)) := fr_upL (fr_refl _ _ _) rfl _ _
  have hI : IFs Y Y' X mm Nn Lp nm pr ht I (up I' 2200 (40 * t + (A - 1)) ((0 : Nat) : Int)) th t A W N := IS_fail h F2 (fun b hb => ⟨up_cell _ (by decide) _ _ _, up_place _ _ hb _⟩)
  have E : I 1994 t - 3 = (p : Int) := by omega
  have m443 : ∀ K : vE → Prop, vW (d' + 10) 443 (0, [vr 2075, vi t, vi ((40 * t + (A - 1) : Nat) : Int), vi nd', vu, vu, vu], [], (I', Y')) K ↔ vW (d' + 8) 426 (0, [vr 2075, vl (I' 2206 (160 * (40 * t + (A - 1)))), vu, vl (I' 2206 (160 * (40 * t + (A - 1)) + 1)), vu], [], (up I' 2200 (40 * t + (A - 1)) ((0 : Nat) : Int), Y')) (vWC (d' + 9) 446 26 3 [vr 2075, vi t, vi ((40 * t + (A - 1) : Nat) : Int), vi w', vl (I' 2206 (160 * (40 * t + (A - 1)) + 2)), vu, vl (I' 2206 (160 * (40 * t + (A - 1)) + 1)), vu, vl (I' 2206 (160 * (40 * t + (A - 1)))), vu, vu, vu] [] (vWC (d' + 10) 443 131 3 [vr 2075, vi t, vi ((40 * t + (A - 1) : Nat) : Int), vi nd', vi w', vu, vu] [] K)) := by
    intro K
    rw [b443_0 hL' hV (by omega) (by omega), hX, tn0, c1, c5, hk, show w32 4 = 4 from w32_id (by decide) (by decide)]
    simp only [Int.reduceEq, if_true, if_false]
    rw [b443_126 hL', b446_0 hL', t_pop (S := 2) hL' a4 (by rw [p3]; rfl) (by decide)]
    simp only [vWC_s, Nat.reduceAdd]
    rw [b446_5 hL', t_pop (S := 1) hL' a4 (by rw [up_same]; rfl) (by decide)]
    simp only [vWC_s, Nat.reduceAdd]
    rw [up_cell _ (show (2206 : Nat) ≠ 2200 by decide), up_up, b446_12 hL', t_pop (S := 0) hL' a4 (by rw [up_same]; rfl) (by decide)]
    simp only [vWC_s, Nat.reduceAdd, Nat.add_zero]
    rw [up_cell _ (show (2206 : Nat) ≠ 2200 by decide), up_up, b446_19 hL']
  have hN2 : up I' 2200 (40 * t + (A - 1)) ((0 : Nat) : Int) 2075 7729 = N := by rw [up_cell _ (by decide)]; exact hN'
  have ar' : aR I (up I' 2200 (40 * t + (A - 1)) ((0 : Nat) : Int)) n En := by
    unfold aR at ar ⊢
    rw [up_cell _ (show (2075 : Nat) ≠ 2200 by decide), up_cell _ (show (2075 : Nat) ≠ 2200 by decide), up_row _ (show (2223 : Nat) ≠ 2200 by decide), up_row _ (show (2224 : Nat) ≠ 2200 by decide), up_row _ (show (2225 : Nat) ≠ 2200 by decide), up_row _ (show (2226 : Nat) ≠ 2200 by decide), up_row _ (show (2227 : Nat) ≠ 2200 by decide), up_row _ (show (2228 : Nat) ≠ 2200 by decide), up_row _ (show (2229 : Nat) ≠ 2200 by decide), up_row _ (show (2230 : Nat) ≠ 2200 by decide)]
    exact ar
  clear ar
  generalize up I' 2200 (40 * t + (A - 1)) ((0 : Nat) : Int) = J' at hI m443 hN2 ar' F2
  generalize I' 2206 (160 * (40 * t + (A - 1))) = ex at vt0 j1 m443
  generalize I' 2206 (160 * (40 * t + (A - 1)) + 1) = ey at vt1 k1 m443
  generalize I' 2206 (160 * (40 * t + (A - 1)) + 2) = ev at vt2 l1 m443
  obtain ⟨f, f1, f2, f3⟩ := w_chk (d := d + 6) (d' := d' + 7) hL hL' ar' (by omega) vt0 vt1
  have back : ∀ (so : Int) (J : vJ) (M1 : vJ) (M2 : vY) (s : Int), (s = 0 ∨ s = 1) → vW (d' + 11) 422 (2, [vr 2075, vi t, vi s, vi ((40 * t + (A - 1) : Nat) : Int), vi nd', y5, y6], [], (M1, M2)) (fun r' => Q (.inl (some (vi so)), (J, Y)) r') → vW (d' + 10) 443 (134, [vr 2075, vi t, vi ((40 * t + (A - 1) : Nat) : Int), vi nd', vi w', vu, vu], [vi s], (M1, M2)) (vWC (d' + 11) 422 114 3 [vr 2075, vi t, vi 1, vi ((40 * t + (A - 1) : Nat) : Int), vi nd', y5, y6] [] (fun r' => Q (.inl (some (vi so)), (J, Y)) r')) := by
    intro so J M1 M2 s q2 q3
    rw [b443_134 q2]
    simp only [vWC_s, Nat.reduceAdd]
    rw [b422_117, b422_118]
    exact q3
  rw [c_end hL b3 b4 b6, b187_0 hL (by omega) (by omega) (by omega) (by omega)]
  simp only [hm, m443, tn0, f2, vWC_s, Nat.reduceAdd]
  rw [hk, show w32 4 = 4 from w32_id (by decide) (by decide)]
  simp only [Int.reduceEq, if_true, if_false]
  rw [b187_104 hL, b189_0 hL (by omega) (by omega), tn0, E, f1]
  simp only [vWC_s, Nat.reduceAdd]
  rw [b189_17, b189_18]
  rcases f3 with g | ⟨g0, k, z, g, g1, g2, g3, g4, g5, g6, g7, g8⟩
  · rw [if_neg (by rw [w32_id (by omega) (by omega)]; omega), b189_22 hL, c_fails hL (by omega) (by omega)]
    simp only [vWC_s, Nat.reduceAdd, b189_27, b187_109, b177_370]
    rw [b446_29, b446_31, if_neg (by rw [w32_id (by omega) (by omega)]; omega), b446_36, b399_0]
    simp only [vWC_s, Nat.reduceAdd]
    rw [b446_46 hL', w32_id (by omega) (by omega), Int.mul_comm f 4]
    refine vWmo (Nat.le_refl _) (fun q hq => ?_) (hFl J' f (by omega) (by omega) hI)
    obtain ⟨s, ⟨M1, M2⟩, q1, q2, q3⟩ := hq
    rw [q1]
    simp only [vWC_s, Nat.reduceAdd]
    rw [b446_49 q2]
    simp only [vWC_s, Nat.reduceAdd]
    exact back _ _ _ _ _ q2 q3
  · subst g0
    have E6 := ar'.2.2.2.1
    have tp1 : ((p : Int) + 1).toNat = p + 1 := by omega
    have tp2 : ((p : Int) + 2).toNat = p + 2 := by omega
    have w8i : w8 (I 1992 (p + 2)) = I 1992 (p + 2) := by
      have : I 1992 (p + 2) = 0 ∨ I 1992 (p + 2) = 1 ∨ I 1992 (p + 2) = 2 := by omega
      rcases this with q | q | q <;> (rw [q]; rfl)
    rw [if_pos (by decide), b189_28 hL (by omega) (by omega) (by rw [tn0]; omega) (by rw [tn0]; omega) (by omega) (by omega) (by omega) (by omega) (by rw [tn0, tp1, g2, tn0, g6, g4]; omega) (by rw [tn0, tp1, g2, tn0, g6, g4]; omega) (by omega) (by omega)]
    simp only [tn0, tp1, tp2, g2, g6, g4, w8i, E, hN, vWC_s, Nat.reduceAdd, b187_109, b177_370]
    rw [show ((g : Int) + (z : Int)).toNat = g + z by omega]
    rw [b446_29, b446_31, if_pos (by decide), b446_50, t_val j1]
    simp only [vWC_s, Nat.reduceAdd]
    rw [g3, b446_55 hL' (by omega) (by omega), tn0, hN2, t_val k1]
    simp only [vWC_s, Nat.reduceAdd]
    rw [g7, g5, b446_85 hL' (by omega) (by omega), show ((g : Int) + (z : Int)).toNat = g + z by omega]
    have G1 : fr [2032, 2033, 2034] [] I (up (up (up I 2032 k N) 2033 (g + z) (I 1992 (p + 2))) 2034 (g + z) (I 1993 (p + 2))) := fr_upL (fr_upL (fr_upL (fr_refl _ _ _) rfl _ _) rfl _ _) rfl _ _
    have G2 : fr [2228, 2230] [] J' (up (up J' 2228 k N) 2230 (g + z) ev) := fr_upL (fr_upL (fr_refl _ _ _) rfl _ _) rfl _ _
    have hA : pArr (up (up (up I 2032 k N) 2033 (g + z) (I 1992 (p + 2))) 2034 (g + z) (I 1993 (p + 2))) (up (up J' 2228 k N) 2230 (g + z) ev) := by
      refine ⟨n, En, ?_⟩
      obtain ⟨a1, a3, a4, a5, a6, a7⟩ := ar'
      refine ⟨by rw [G1 1990 _ rfl, G2 2075 _ rfl]; exact a1, a3, by rw [G1 1990 _ rfl, G2 2075 _ rfl]; exact a4, a5, fun c hc => ?_, fun c hc => ?_⟩
      · obtain ⟨⟨m1, m2, m3, m4, m5, m6, m7⟩, m8⟩ := a6 c hc
        rw [G1 2027 _ rfl, G1 2028 _ rfl, G1 2029 _ rfl, G1 2030 _ rfl, G1 2031 _ rfl, G1 1985 _ rfl, G2 2223 _ rfl, G2 2224 _ rfl, G2 2225 _ rfl, G2 2226 _ rfl, G2 2227 _ rfl, G2 2229 _ rfl]
        refine ⟨⟨m1, m2, m3, m4, m5, ?_, m7⟩, m8⟩
        rw [up_cell _ (show (2032 : Nat) ≠ 2034 by decide), up_cell _ (show (2032 : Nat) ≠ 2033 by decide), up_at, up_cell _ (show (2228 : Nat) ≠ 2230 by decide), up_at, m6]
      · rw [up_cell _ (show (2033 : Nat) ≠ 2034 by decide), up_at, up_cell _ (show (2033 : Nat) ≠ 2032 by decide), up_at, up_cell _ (show (2034 : Nat) ≠ 2033 by decide), up_cell _ (show (2034 : Nat) ≠ 2032 by decide), up_at, up_cell _ (show (2230 : Nat) ≠ 2228 by decide)]
        by_cases y : c = g + z
        · rw [if_pos y, if_pos y, if_pos y]; exact vt2
        · rw [if_neg y, if_neg y, if_neg y]; exact a7 c hc
    have hPT : PT Lp (up (up (up I 2032 k N) 2033 (g + z) (I 1992 (p + 2))) 2034 (g + z) (I 1993 (p + 2))) (up (up J' 2228 k N) 2230 (g + z) ev) := by
      obtain ⟨q1, q2, q3, q4, q5, q6, q7, q8, q9, q10, q11, q12, q13, q14, q15, q16, q17, q18, q19, q20⟩ := hI.2.2.1
      exact ⟨su_keep su_tR G1 G2 rfl q1, su_keep su_pPath G1 G2 rfl q2, su_keep su_loR G1 G2 rfl q3, hA, su_keep su_pStep G1 G2 rfl q5, su_keep su_pKeep G1 G2 rfl q6, su_keep su_pCost G1 G2 rfl q7, su_keep su_pCalls G1 G2 rfl q8, su_keep su_pMet G1 G2 rfl q9, su_keep su_pPrint G1 G2 rfl q10, su_keep su_pBegun G1 G2 rfl q11, su_keep su_pLooks G1 G2 rfl q12, su_keep su_pPar G1 G2 rfl q13, su_keep su_pThr G1 G2 rfl q14, su_keep su_pDone G1 G2 rfl q15, su_keep su_pLast G1 G2 rfl q16, su_keep su_pFor G1 G2 rfl q17, su_keep su_pTurns G1 G2 rfl q18, su_keep su_pSeed G1 G2 rfl q19, su_keep su_pVars G1 G2 rfl q20⟩
    have hF := IFs_top (IFs_keep hI (fr_weak G1 (by decide) (by decide)) (fr_weak G2 (by decide) (by decide)) hPT) (p : Int)
    have o := hOn _ _ hF (by rw [up_cell _ (by decide), G1 2007 _ rfl]; exact b1) (by rw [up_row _ (by decide), fr_row G1 38 (fun _ => rfl)]) (by rw [up_row _ (by decide), fr_row G1 48 (fun _ => rfl)]) (by rw [up_same, up_cell _ (show (2009 : Nat) ≠ 1994 by decide), up_cell _ (show (2006 : Nat) ≠ 1994 by decide), G1 2009 _ rfl, G1 2006 _ rfl, c7, hp]; omega)
    refine vWmo (Nat.le_refl _) (fun q hq => ?_) o
    obtain ⟨s, ⟨M1, M2⟩, q1, q2, q3⟩ := hq
    rw [q1]
    simp only [vWC_s, Nat.reduceAdd]
    rw [b446_96 q2]
    simp only [vWC_s, Nat.reduceAdd]
    exact back _ _ _ _ _ q2 q3
end
