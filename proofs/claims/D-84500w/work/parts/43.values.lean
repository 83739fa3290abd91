/-! ===== values: (kind, number) in the house, one long in the model ===== -/
theorem and3 {e : Int} (h0 : -9223372036854775808 ≤ e) (h1 : e < 9223372036854775808) : b64 (· &&& ·) e 3 = e % 4 := by
  unfold b64
  show (Int64.ofInt e &&& Int64.ofInt 3).toInt = e % 4
  have e1 : ((Int64.ofInt e).toBitVec.toNat : Int) = e % 18446744073709551616 := by
    show ((BitVec.ofInt 64 e).toNat : Int) = _
    rw [BitVec.toNat_ofInt]; omega
  have h : (Int64.ofInt e &&& Int64.ofInt 3).toBitVec.toNat = (Int64.ofInt e).toBitVec.toNat % 4 := by
    rw [Int64.toBitVec_and, BitVec.toNat_and]
    have e2 : (Int64.ofInt 3).toBitVec.toNat = 2 ^ 2 - 1 := by decide
    rw [e2, Nat.and_two_pow_sub_one_eq_mod]
  have e3 : (Int64.ofInt e &&& Int64.ofInt 3).toInt = ((Int64.ofInt e &&& Int64.ofInt 3).toBitVec.toNat : Int) := by
    show (Int64.ofInt e &&& Int64.ofInt 3).toBitVec.toInt = _
    rw [BitVec.toInt_eq_toNat_of_lt (by omega)]
  rw [e3, h]; omega
theorem shr2 {e : Int} (h0 : -9223372036854775808 ≤ e) (h1 : e < 9223372036854775808) : (Int64.ofInt e >>> ((Int32.ofInt 2).toInt64 &&& 63)).toInt = e / 4 := by
  have e0 : (Int32.ofInt 2).toInt64 &&& 63 = (2 : Int64) := by decide
  rw [e0]
  have e1 : (Int64.ofInt e).toInt = e := by
    rw [Int64.toInt_ofInt]; exact w64_id h0 h1
  show (Int64.ofInt e >>> (2 : Int64)).toBitVec.toInt = e / 4
  rw [Int64.toBitVec_shiftRight]
  have e2 : (2 : Int64).toBitVec.smod 64 = 2#64 := by decide
  rw [e2]
  show ((Int64.ofInt e).toBitVec.sshiftRight 2).toInt = e / 4
  rw [BitVec.toInt_sshiftRight]
  show (Int64.ofInt e).toInt >>> 2 = e / 4
  rw [e1, Int.shiftRight_eq_div_pow]
  rfl
/-- numbers of the values' size -/
def inV (e : Int) : Prop := -1000000000000 ≤ e ∧ e < 1000000000000
section
variable {d : Nat} {I : vJ} {Y : vY} {Q : vE → Prop}
theorem t_isNum {e : Int} (h : inV e) : vW d 428 (0, [vl e, vu], [], (I, Y)) Q ↔ Q (.inl (some (vi (if e % 4 = 0 then 1 else 0))), (I, Y)) := by
  obtain ⟨h0, h1⟩ := h
  simp (disch := (first | assumption | omega | (simp only [up_app, Nat.reduceEqDiff, false_and, and_false, true_and, and_true, if_true, if_false, Nat.add_left_cancel_iff, Nat.add_right_cancel_iff, Nat.add_eq_left, Nat.left_eq_add, tn0, tn1, tn2, tn3, tn4, tn5, tn6, tn7, tn8, tn9]; omega))) only [m428_0, b428_10, b428_14, b428_15, and3, vWC_n, vWC_s, vWC_x, if01a, if01b, if_pos, if_neg, tn0, tn1, tn2, tn3, tn4, tn5, tn6, tn7, tn8, tn9, w32_id, w64_id, Nat.reduceAdd, reduceIte, Int.reduceLT, Int.reduceLE, Int.reduceEq, Int.reduceNe, Int.reduceAdd, Int.reduceSub, Int.reduceMul, Int.reduceNeg, Int.reduceToNat, ne_eq, not_true_eq_false, not_false_eq_true, true_and, and_true, false_and, and_false, true_or, or_true, false_or, or_false, if_true, if_false, and_self, or_self, ite_self]
  by_cases q : e % 4 = 0
  · simp only [q, if_true, not_true_eq_false, if_false]
  · simp only [q, if_true, not_false_eq_true, if_false]
theorem t_isArr {e : Int} (h : inV e) : vW d 427 (0, [vl e, vu], [], (I, Y)) Q ↔ Q (.inl (some (vi (if e % 4 = 1 then 1 else 0))), (I, Y)) := by
  obtain ⟨h0, h1⟩ := h
  simp (disch := (first | assumption | omega | (simp only [up_app, Nat.reduceEqDiff, false_and, and_false, true_and, and_true, if_true, if_false, Nat.add_left_cancel_iff, Nat.add_right_cancel_iff, Nat.add_eq_left, Nat.left_eq_add, tn0, tn1, tn2, tn3, tn4, tn5, tn6, tn7, tn8, tn9]; omega))) only [m427_0, b427_10, b427_14, b427_15, and3, vWC_n, vWC_s, vWC_x, if01a, if01b, if_pos, if_neg, tn0, tn1, tn2, tn3, tn4, tn5, tn6, tn7, tn8, tn9, w32_id, w64_id, Nat.reduceAdd, reduceIte, Int.reduceLT, Int.reduceLE, Int.reduceEq, Int.reduceNe, Int.reduceAdd, Int.reduceSub, Int.reduceMul, Int.reduceNeg, Int.reduceToNat, ne_eq, not_true_eq_false, not_false_eq_true, true_and, and_true, false_and, and_false, true_or, or_true, false_or, or_false, if_true, if_false, and_self, or_self, ite_self]
  by_cases q : e % 4 = 1
  · simp only [q, if_true, not_true_eq_false, if_false]
  · simp only [q, if_true, not_false_eq_true, if_false]
theorem t_val {e : Int} (h : inV e) : vW d 415 (0, [vl e, vu], [], (I, Y)) Q ↔ Q (.inl (some (vl (e / 4))), (I, Y)) := by
  obtain ⟨h0, h1⟩ := h
  simp (disch := (first | assumption | omega | (simp only [up_app, Nat.reduceEqDiff, false_and, and_false, true_and, and_true, if_true, if_false, Nat.add_left_cancel_iff, Nat.add_right_cancel_iff, Nat.add_eq_left, Nat.left_eq_add, tn0, tn1, tn2, tn3, tn4, tn5, tn6, tn7, tn8, tn9]; omega))) only [b415_0, shr2, vWC_n, vWC_s, vWC_x, if01a, if01b, if_pos, if_neg, tn0, tn1, tn2, tn3, tn4, tn5, tn6, tn7, tn8, tn9, w32_id, w64_id, Nat.reduceAdd, reduceIte, Int.reduceLT, Int.reduceLE, Int.reduceEq, Int.reduceNe, Int.reduceAdd, Int.reduceSub, Int.reduceMul, Int.reduceNeg, Int.reduceToNat, ne_eq, not_true_eq_false, not_false_eq_true, true_and, and_true, false_and, and_false, true_or, or_true, false_or, or_false, if_true, if_false, and_self, or_self, ite_self]
theorem t_isTrue {e : Int} (h : inV e) : vW (d + 1) 435 (0, [vl e, vu], [], (I, Y)) Q ↔ Q (.inl (some (vi (if e % 4 = 1 ∨ e % 4 = 0 ∧ e ≠ 0 then 1 else 0))), (I, Y)) := by
  have h' := h
  obtain ⟨h0, h1⟩ := h
  rw [b435_0, t_isArr h']
  by_cases q : e % 4 = 1
  · simp (disch := (first | assumption | omega | (simp only [up_app, Nat.reduceEqDiff, false_and, and_false, true_and, and_true, if_true, if_false, Nat.add_left_cancel_iff, Nat.add_right_cancel_iff, Nat.add_eq_left, Nat.left_eq_add, tn0, tn1, tn2, tn3, tn4, tn5, tn6, tn7, tn8, tn9]; omega))) only [b435_4, b435_7, m435_11, m435_14, b435_20, b435_24, b435_25, q, vWC_n, vWC_s, vWC_x, if01a, if01b, if_pos, if_neg, tn0, tn1, tn2, tn3, tn4, tn5, tn6, tn7, tn8, tn9, w32_id, w64_id, Nat.reduceAdd, reduceIte, Int.reduceLT, Int.reduceLE, Int.reduceEq, Int.reduceNe, Int.reduceAdd, Int.reduceSub, Int.reduceMul, Int.reduceNeg, Int.reduceToNat, ne_eq, not_true_eq_false, not_false_eq_true, true_and, and_true, false_and, and_false, true_or, or_true, false_or, or_false, if_true, if_false, and_self, or_self, ite_self]
    try simp
  · simp (disch := (first | assumption | omega | (simp only [up_app, Nat.reduceEqDiff, false_and, and_false, true_and, and_true, if_true, if_false, Nat.add_left_cancel_iff, Nat.add_right_cancel_iff, Nat.add_eq_left, Nat.left_eq_add, tn0, tn1, tn2, tn3, tn4, tn5, tn6, tn7, tn8, tn9]; omega))) only [q, b435_4, b435_7, m435_11, m435_14, b435_20, b435_24, b435_25, vWC_n, vWC_s, vWC_x, if01a, if01b, if_pos, if_neg, tn0, tn1, tn2, tn3, tn4, tn5, tn6, tn7, tn8, tn9, w32_id, w64_id, Nat.reduceAdd, reduceIte, Int.reduceLT, Int.reduceLE, Int.reduceEq, Int.reduceNe, Int.reduceAdd, Int.reduceSub, Int.reduceMul, Int.reduceNeg, Int.reduceToNat, ne_eq, not_true_eq_false, not_false_eq_true, true_and, and_true, false_and, and_false, true_or, or_true, false_or, or_false, if_true, if_false, and_self, or_self, ite_self]
    rw [t_isNum h']
    by_cases q2 : e % 4 = 0
    · by_cases q3 : e = 0
      · simp (disch := (first | assumption | omega | (simp only [up_app, Nat.reduceEqDiff, false_and, and_false, true_and, and_true, if_true, if_false, Nat.add_left_cancel_iff, Nat.add_right_cancel_iff, Nat.add_eq_left, Nat.left_eq_add, tn0, tn1, tn2, tn3, tn4, tn5, tn6, tn7, tn8, tn9]; omega))) only [q2, b435_4, b435_7, m435_11, m435_14, b435_20, b435_24, b435_25, vWC_n, vWC_s, vWC_x, if01a, if01b, if_pos, if_neg, tn0, tn1, tn2, tn3, tn4, tn5, tn6, tn7, tn8, tn9, w32_id, w64_id, Nat.reduceAdd, reduceIte, Int.reduceLT, Int.reduceLE, Int.reduceEq, Int.reduceNe, Int.reduceAdd, Int.reduceSub, Int.reduceMul, Int.reduceNeg, Int.reduceToNat, ne_eq, not_true_eq_false, not_false_eq_true, true_and, and_true, false_and, and_false, true_or, or_true, false_or, or_false, if_true, if_false, and_self, or_self, ite_self]
        try simp [q3]
      · simp (disch := (first | assumption | omega | (simp only [up_app, Nat.reduceEqDiff, false_and, and_false, true_and, and_true, if_true, if_false, Nat.add_left_cancel_iff, Nat.add_right_cancel_iff, Nat.add_eq_left, Nat.left_eq_add, tn0, tn1, tn2, tn3, tn4, tn5, tn6, tn7, tn8, tn9]; omega))) only [q2, b435_4, b435_7, m435_11, m435_14, b435_20, b435_24, b435_25, vWC_n, vWC_s, vWC_x, if01a, if01b, if_pos, if_neg, tn0, tn1, tn2, tn3, tn4, tn5, tn6, tn7, tn8, tn9, w32_id, w64_id, Nat.reduceAdd, reduceIte, Int.reduceLT, Int.reduceLE, Int.reduceEq, Int.reduceNe, Int.reduceAdd, Int.reduceSub, Int.reduceMul, Int.reduceNeg, Int.reduceToNat, ne_eq, not_true_eq_false, not_false_eq_true, true_and, and_true, false_and, and_false, true_or, or_true, false_or, or_false, if_true, if_false, and_self, or_self, ite_self]
        try simp [q3]
    · simp (disch := (first | assumption | omega | (simp only [up_app, Nat.reduceEqDiff, false_and, and_false, true_and, and_true, if_true, if_false, Nat.add_left_cancel_iff, Nat.add_right_cancel_iff, Nat.add_eq_left, Nat.left_eq_add, tn0, tn1, tn2, tn3, tn4, tn5, tn6, tn7, tn8, tn9]; omega))) only [q2, b435_4, b435_7, m435_11, m435_14, b435_20, b435_24, b435_25, vWC_n, vWC_s, vWC_x, if01a, if01b, if_pos, if_neg, tn0, tn1, tn2, tn3, tn4, tn5, tn6, tn7, tn8, tn9, w32_id, w64_id, Nat.reduceAdd, reduceIte, Int.reduceLT, Int.reduceLE, Int.reduceEq, Int.reduceNe, Int.reduceAdd, Int.reduceSub, Int.reduceMul, Int.reduceNeg, Int.reduceToNat, ne_eq, not_true_eq_false, not_false_eq_true, true_and, and_true, false_and, and_false, true_or, or_true, false_or, or_false, if_true, if_false, and_self, or_self, ite_self]
      try simp
end
