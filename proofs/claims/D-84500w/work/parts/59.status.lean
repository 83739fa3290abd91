/-! ===== what a run is: status ===== -/
theorem or01 {a b : Int} (ha : a = 0 ∨ a = 1) (hb : b = 0 ∨ b = 1) : b32 (· ||| ·) a b = if a = 1 ∨ b = 1 then 1 else 0 := by
  rcases ha with rfl | rfl <;> rcases hb with rfl | rfl <;> decide
theorem and01 {a b : Int} (ha : a = 0 ∨ a = 1) (hb : b = 0 ∨ b = 1) : b32 (· &&& ·) a b = if a = 1 ∧ b = 1 then 1 else 0 := by
  rcases ha with rfl | rfl <;> rcases hb with rfl | rfl <;> decide
/-- whether some of the first n go; whether all have ended -/
def anyG (st : Nat → Int) : Nat → Int
  | 0 => 0
  | n + 1 => if anyG st n = 1 ∨ st n = 0 then 1 else 0
def allE (st : Nat → Int) : Nat → Int
  | 0 => 1
  | n + 1 => if allE st n = 1 ∧ 3 ≤ st n then 1 else 0
theorem anyG_01 (st : Nat → Int) (n : Nat) : anyG st n = 0 ∨ anyG st n = 1 := by
  cases n with
  | zero => exact Or.inl rfl
  | succ n => unfold anyG; split; exact Or.inr rfl; exact Or.inl rfl
theorem allE_01 (st : Nat → Int) (n : Nat) : allE st n = 0 ∨ allE st n = 1 := by
  cases n with
  | zero => exact Or.inr rfl
  | succ n => unfold allE; split; exact Or.inr rfl; exact Or.inl rfl
def stv (st : Nat → Int) (th : Nat) (now : Int) : Int := if allE st th = 1 then 2 else if anyG st th = 1 then (if now = 20000 then 4 else 1) else 3
section
variable {d d' : Nat} {I I' : vJ} {Y Y' : vY} {Q : vE → Prop}
theorem c_status {th N : Nat} (hL : vL Y) (hth : I 1990 3390 = th) (h8 : th ≤ 8) (hN : I 1990 3388 = N) (hN2 : N ≤ 20000) (hst : ∀ u, u < th → 0 ≤ I 1996 u ∧ I 1996 u ≤ 4) : vW d 173 (0, [vr 1990, vu, vu, vu], [], (I, Y)) Q ↔ Q (.inl (some (vi (stv (I 1996) th N))), (I, Y)) := by
  have loop : ∀ m i : Nat, i + m = th → (vW d 173 (6, [vr 1990, vi (anyG (I 1996) i), vi (allE (I 1996) i), vi i], [], (I, Y)) Q ↔ Q (.inl (some (vi (stv (I 1996) th N))), (I, Y))) := by
    intro m
    induction m with
    | zero =>
      intro i hi
      have hi : i = th := by omega
      subst hi
      unfold stv
      rcases allE_01 (I 1996) i with e | e
      · rcases anyG_01 (I 1996) i with g | g
        · simp (disch := (first | assumption | omega | (simp only [up_app, Nat.reduceEqDiff, false_and, and_false, true_and, and_true, if_true, if_false, Nat.add_left_cancel_iff, Nat.add_right_cancel_iff, Nat.add_eq_left, Nat.left_eq_add, tn0, tn1, tn2, tn3, tn4, tn5, tn6, tn7, tn8, tn9]; omega))) only [b173_6, m173_55, b173_86, hth, hN, e, g, vWC_n, vWC_s, vWC_x, if01a, if01b, if_pos, if_neg, tn0, tn1, tn2, tn3, tn4, tn5, tn6, tn7, tn8, tn9, w32_id, w64_id, Nat.reduceAdd, reduceIte, Int.reduceLT, Int.reduceLE, Int.reduceEq, Int.reduceNe, Int.reduceAdd, Int.reduceSub, Int.reduceMul, Int.reduceNeg, Int.reduceToNat, ne_eq, not_true_eq_false, not_false_eq_true, true_and, and_true, false_and, and_false, true_or, or_true, false_or, or_false, if_true, if_false, and_self, or_self, ite_self]
        · by_cases z : (N : Int) = 20000
          · simp (disch := (first | assumption | omega | (simp only [up_app, Nat.reduceEqDiff, false_and, and_false, true_and, and_true, if_true, if_false, Nat.add_left_cancel_iff, Nat.add_right_cancel_iff, Nat.add_eq_left, Nat.left_eq_add, tn0, tn1, tn2, tn3, tn4, tn5, tn6, tn7, tn8, tn9]; omega))) only [b173_6, m173_55, b173_86, hth, hN, e, g, z, vWC_n, vWC_s, vWC_x, if01a, if01b, if_pos, if_neg, tn0, tn1, tn2, tn3, tn4, tn5, tn6, tn7, tn8, tn9, w32_id, w64_id, Nat.reduceAdd, reduceIte, Int.reduceLT, Int.reduceLE, Int.reduceEq, Int.reduceNe, Int.reduceAdd, Int.reduceSub, Int.reduceMul, Int.reduceNeg, Int.reduceToNat, ne_eq, not_true_eq_false, not_false_eq_true, true_and, and_true, false_and, and_false, true_or, or_true, false_or, or_false, if_true, if_false, and_self, or_self, ite_self]
          · simp (disch := (first | assumption | omega | (simp only [up_app, Nat.reduceEqDiff, false_and, and_false, true_and, and_true, if_true, if_false, Nat.add_left_cancel_iff, Nat.add_right_cancel_iff, Nat.add_eq_left, Nat.left_eq_add, tn0, tn1, tn2, tn3, tn4, tn5, tn6, tn7, tn8, tn9]; omega))) only [b173_6, m173_55, b173_86, hth, hN, e, g, z, vWC_n, vWC_s, vWC_x, if01a, if01b, if_pos, if_neg, tn0, tn1, tn2, tn3, tn4, tn5, tn6, tn7, tn8, tn9, w32_id, w64_id, Nat.reduceAdd, reduceIte, Int.reduceLT, Int.reduceLE, Int.reduceEq, Int.reduceNe, Int.reduceAdd, Int.reduceSub, Int.reduceMul, Int.reduceNeg, Int.reduceToNat, ne_eq, not_true_eq_false, not_false_eq_true, true_and, and_true, false_and, and_false, true_or, or_true, false_or, or_false, if_true, if_false, and_self, or_self, ite_self]
      · simp (disch := (first | assumption | omega | (simp only [up_app, Nat.reduceEqDiff, false_and, and_false, true_and, and_true, if_true, if_false, Nat.add_left_cancel_iff, Nat.add_right_cancel_iff, Nat.add_eq_left, Nat.left_eq_add, tn0, tn1, tn2, tn3, tn4, tn5, tn6, tn7, tn8, tn9]; omega))) only [b173_6, m173_55, b173_86, hth, hN, e, vWC_n, vWC_s, vWC_x, if01a, if01b, if_pos, if_neg, tn0, tn1, tn2, tn3, tn4, tn5, tn6, tn7, tn8, tn9, w32_id, w64_id, Nat.reduceAdd, reduceIte, Int.reduceLT, Int.reduceLE, Int.reduceEq, Int.reduceNe, Int.reduceAdd, Int.reduceSub, Int.reduceMul, Int.reduceNeg, Int.reduceToNat, ne_eq, not_true_eq_false, not_false_eq_true, true_and, and_true, false_and, and_false, true_or, or_true, false_or, or_false, if_true, if_false, and_self, or_self, ite_self]
    | succ m ih =>
      intro i hi
      have b := hst i (by omega)
      rw [← ih (i + 1) (by omega)]
      have e1 : anyG (I 1996) (i + 1) = b32 (· ||| ·) (anyG (I 1996) i) (if I 1996 i = 0 then 1 else 0) := by
        rw [or01 (anyG_01 _ _) (by split; exact Or.inr rfl; exact Or.inl rfl)]
        show (if anyG (I 1996) i = 1 ∨ I 1996 i = 0 then (1 : Int) else 0) = _
        by_cases z : I 1996 i = 0
        · simp [z]
        · simp [z]
      have e2 : allE (I 1996) (i + 1) = b32 (· &&& ·) (allE (I 1996) i) (if 3 ≤ I 1996 i then 1 else 0) := by
        rw [and01 (allE_01 _ _) (by split; exact Or.inr rfl; exact Or.inl rfl)]
        show (if allE (I 1996) i = 1 ∧ 3 ≤ I 1996 i then (1 : Int) else 0) = _
        by_cases z : 3 ≤ I 1996 i
        · simp [z]
        · simp [z]
      rw [e1, e2]
      rw [b173_6 hL, hth]
      by_cases z1 : I 1996 i = 0
      · simp (disch := (first | assumption | omega | (simp only [up_app, Nat.reduceEqDiff, false_and, and_false, true_and, and_true, if_true, if_false, Nat.add_left_cancel_iff, Nat.add_right_cancel_iff, Nat.add_eq_left, Nat.left_eq_add, tn0, tn1, tn2, tn3, tn4, tn5, tn6, tn7, tn8, tn9]; omega))) only [b173_14, b173_24, b173_29, b173_31, b173_46, b173_47, z1, cst1, vWC_n, vWC_s, vWC_x, if01a, if01b, if_pos, if_neg, tn0, tn1, tn2, tn3, tn4, tn5, tn6, tn7, tn8, tn9, w32_id, w64_id, Nat.reduceAdd, reduceIte, Int.reduceLT, Int.reduceLE, Int.reduceEq, Int.reduceNe, Int.reduceAdd, Int.reduceSub, Int.reduceMul, Int.reduceNeg, Int.reduceToNat, ne_eq, not_true_eq_false, not_false_eq_true, true_and, and_true, false_and, and_false, true_or, or_true, false_or, or_false, if_true, if_false, and_self, or_self, ite_self]
      · by_cases z2 : 3 ≤ I 1996 i
        · simp (disch := (first | assumption | omega | (simp only [up_app, Nat.reduceEqDiff, false_and, and_false, true_and, and_true, if_true, if_false, Nat.add_left_cancel_iff, Nat.add_right_cancel_iff, Nat.add_eq_left, Nat.left_eq_add, tn0, tn1, tn2, tn3, tn4, tn5, tn6, tn7, tn8, tn9]; omega))) only [b173_14, b173_28, b173_29, b173_31, b173_42, b173_47, cst1, vWC_n, vWC_s, vWC_x, if01a, if01b, if_pos, if_neg, tn0, tn1, tn2, tn3, tn4, tn5, tn6, tn7, tn8, tn9, w32_id, w64_id, Nat.reduceAdd, reduceIte, Int.reduceLT, Int.reduceLE, Int.reduceEq, Int.reduceNe, Int.reduceAdd, Int.reduceSub, Int.reduceMul, Int.reduceNeg, Int.reduceToNat, ne_eq, not_true_eq_false, not_false_eq_true, true_and, and_true, false_and, and_false, true_or, or_true, false_or, or_false, if_true, if_false, and_self, or_self, ite_self]
        · simp (disch := (first | assumption | omega | (simp only [up_app, Nat.reduceEqDiff, false_and, and_false, true_and, and_true, if_true, if_false, Nat.add_left_cancel_iff, Nat.add_right_cancel_iff, Nat.add_eq_left, Nat.left_eq_add, tn0, tn1, tn2, tn3, tn4, tn5, tn6, tn7, tn8, tn9]; omega))) only [b173_14, b173_28, b173_29, b173_31, b173_46, b173_47, cst1, vWC_n, vWC_s, vWC_x, if01a, if01b, if_pos, if_neg, tn0, tn1, tn2, tn3, tn4, tn5, tn6, tn7, tn8, tn9, w32_id, w64_id, Nat.reduceAdd, reduceIte, Int.reduceLT, Int.reduceLE, Int.reduceEq, Int.reduceNe, Int.reduceAdd, Int.reduceSub, Int.reduceMul, Int.reduceNeg, Int.reduceToNat, ne_eq, not_true_eq_false, not_false_eq_true, true_and, and_true, false_and, and_false, true_or, or_true, false_or, or_false, if_true, if_false, and_self, or_self, ite_self]
  have := loop th 0 (by omega)
  simp (disch := (first | assumption | omega | (simp only [up_app, Nat.reduceEqDiff, false_and, and_false, true_and, and_true, if_true, if_false, Nat.add_left_cancel_iff, Nat.add_right_cancel_iff, Nat.add_eq_left, Nat.left_eq_add, tn0, tn1, tn2, tn3, tn4, tn5, tn6, tn7, tn8, tn9]; omega))) only [b173_0, vWC_n, vWC_s, vWC_x, if01a, if01b, if_pos, if_neg, tn0, tn1, tn2, tn3, tn4, tn5, tn6, tn7, tn8, tn9, w32_id, w64_id, Nat.reduceAdd, reduceIte, Int.reduceLT, Int.reduceLE, Int.reduceEq, Int.reduceNe, Int.reduceAdd, Int.reduceSub, Int.reduceMul, Int.reduceNeg, Int.reduceToNat, ne_eq, not_true_eq_false, not_false_eq_true, true_and, and_true, false_and, and_false, true_or, or_true, false_or, or_false, if_true, if_false, and_self, or_self, ite_self]
  exact this
end
