/-! ===== loops around a node, told exactly ===== -/
/-- whether loop l is k or around it -/
def inb (ar : Nat → Int) (l : Int) : Nat → Int → Int
  | 0, _ => 0
  | f + 1, k => if k = -1 then 0 else if k = l then 1 else inb ar l f (ar k.toNat)
theorem inb_01 (ar : Nat → Int) (l : Int) : ∀ (f : Nat) (k : Int), inb ar l f k = 0 ∨ inb ar l f k = 1 := by
  intro f
  induction f with
  | zero => intro k; exact Or.inl rfl
  | succ f ih =>
    intro k
    unfold inb
    split
    · exact Or.inl rfl
    · split
      · exact Or.inr rfl
      · exact ih _
section
variable {d d' : Nat} {I I' : vJ} {Y Y' : vY} {Q : vE → Prop}
theorem c_chain {l : Nat} {x2 : Int} {Lp : Nat} (hL : vL Y) (hLp : Lp ≤ 260) (hl : l < Lp) (har : ∀ k : Nat, k < Lp → I 55 k = -1 ∨ 0 ≤ I 55 k ∧ I 55 k < k) : ∀ (f k : Nat), k < f → k < Lp → (vW d 105 (7, [vr 35, vi l, vi x2, vi k], [], (I, Y)) Q ↔ Q (.inl (some (vi (inb (I 55) l (f + 1) k))), (I, Y))) := by
  intro f
  induction f with
  | zero => intro k h; omega
  | succ f ih =>
    intro k hk hk2
    have e1 : inb (I 55) l (f + 1 + 1) k = if (k : Int) = l then 1 else inb (I 55) l (f + 1) (I 55 k) := by
      show (if (k : Int) = -1 then 0 else if (k : Int) = l then 1 else inb (I 55) l (f + 1) (I 55 (k : Int).toNat)) = _
      rw [if_neg (by omega)]; rfl
    rw [e1]
    by_cases e : k = l
    · subst e
      simp (disch := (first | assumption | omega | (simp only [up_app, Nat.reduceEqDiff, false_and, and_false, true_and, and_true, if_true, if_false, Nat.add_left_cancel_iff, Nat.add_right_cancel_iff, Nat.add_eq_left, Nat.left_eq_add, tn0, tn1, tn2, tn3, tn4, tn5, tn6, tn7, tn8, tn9]; omega))) only [b105_7, b105_12, m105_27, b105_37, vWC_n, vWC_s, vWC_x, if01a, if01b, if_pos, if_neg, tn0, tn1, tn2, tn3, tn4, tn5, tn6, tn7, tn8, tn9, w32_id, w64_id, Nat.reduceAdd, reduceIte, Int.reduceLT, Int.reduceLE, Int.reduceEq, Int.reduceNe, Int.reduceAdd, Int.reduceSub, Int.reduceMul, Int.reduceNeg, Int.reduceToNat, ne_eq, not_true_eq_false, not_false_eq_true, true_and, and_true, false_and, and_false, true_or, or_true, false_or, or_false, if_true, if_false, and_self, or_self, ite_self]
    · rw [b105_7]
      simp (disch := (first | assumption | omega | (simp only [up_app, Nat.reduceEqDiff, false_and, and_false, true_and, and_true, if_true, if_false, Nat.add_left_cancel_iff, Nat.add_right_cancel_iff, Nat.add_eq_left, Nat.left_eq_add, tn0, tn1, tn2, tn3, tn4, tn5, tn6, tn7, tn8, tn9]; omega))) only [b105_12, b105_17, vWC_n, vWC_s, vWC_x, if01a, if01b, if_pos, if_neg, tn0, tn1, tn2, tn3, tn4, tn5, tn6, tn7, tn8, tn9, w32_id, w64_id, Nat.reduceAdd, reduceIte, Int.reduceLT, Int.reduceLE, Int.reduceEq, Int.reduceNe, Int.reduceAdd, Int.reduceSub, Int.reduceMul, Int.reduceNeg, Int.reduceToNat, ne_eq, not_true_eq_false, not_false_eq_true, true_and, and_true, false_and, and_false, true_or, or_true, false_or, or_false, if_true, if_false, and_self, or_self, ite_self]
      rcases har k hk2 with c | ⟨c1, c2⟩
      · rw [c]
        simp (disch := (first | assumption | omega | (simp only [up_app, Nat.reduceEqDiff, false_and, and_false, true_and, and_true, if_true, if_false, Nat.add_left_cancel_iff, Nat.add_right_cancel_iff, Nat.add_eq_left, Nat.left_eq_add, tn0, tn1, tn2, tn3, tn4, tn5, tn6, tn7, tn8, tn9]; omega))) only [b105_7, m105_27, b105_37, vWC_n, vWC_s, vWC_x, if01a, if01b, if_pos, if_neg, tn0, tn1, tn2, tn3, tn4, tn5, tn6, tn7, tn8, tn9, w32_id, w64_id, Nat.reduceAdd, reduceIte, Int.reduceLT, Int.reduceLE, Int.reduceEq, Int.reduceNe, Int.reduceAdd, Int.reduceSub, Int.reduceMul, Int.reduceNeg, Int.reduceToNat, ne_eq, not_true_eq_false, not_false_eq_true, true_and, and_true, false_and, and_false, true_or, or_true, false_or, or_false, if_true, if_false, and_self, or_self, ite_self]
        rfl
      · obtain ⟨j, hj⟩ : ∃ j : Nat, I 55 k = j := ⟨(I 55 k).toNat, by omega⟩
        rw [hj]
        exact ih j (by omega) (by omega)
theorem t_chain {X l Lp Nn : Nat} {x1 : Int} {ar ln : Nat → Int} (hL : vL Y) (hX : Y.1 2075 7689 = X) (hV : vreg Y 2081 38 (Y.1 2075 7689)) (hNn : Nn ≤ 700) (hl : l < Lp) (har : ∀ k : Nat, k < Lp → (0 ≤ ln k ∧ ln k < Nn) ∧ (ar k = -1 ∧ I (X + 18) (ln k).toNat = -1 ∨ 0 ≤ ar k ∧ ar k < k ∧ I (X + 18) (ln k).toNat = ln (ar k).toNat)) (hinj : ∀ i j, i < Lp → j < Lp → ln i = ln j → i = j) : ∀ (f k : Nat), k < f → k < Lp → (vW d 404 (10, [vr 2075, vi x1, vi (ln l), vi (ln k)], [], (I, Y)) Q ↔ Q (.inl (some (vi (inb ar l (f + 1) k))), (I, Y))) := by
  intro f
  have bl := (har l hl).1
  induction f with
  | zero => intro k h; omega
  | succ f ih =>
    intro k hk hk2
    have e1 : inb ar l (f + 1 + 1) k = if (k : Int) = l then 1 else inb ar l (f + 1) (ar k) := by
      show (if (k : Int) = -1 then 0 else if (k : Int) = l then 1 else inb ar l (f + 1) (ar (k : Int).toNat)) = _
      rw [if_neg (by omega)]; rfl
    rw [e1]
    have b := har k hk2
    obtain ⟨⟨b1, b2⟩, b3⟩ := b
    by_cases e : k = l
    · subst e
      simp (disch := (first | assumption | omega | (simp only [up_app, Nat.reduceEqDiff, false_and, and_false, true_and, and_true, if_true, if_false, Nat.add_left_cancel_iff, Nat.add_right_cancel_iff, Nat.add_eq_left, Nat.left_eq_add, tn0, tn1, tn2, tn3, tn4, tn5, tn6, tn7, tn8, tn9]; omega))) only [b404_10, b404_14, b404_19, vWC_n, vWC_s, vWC_x, if01a, if01b, if_pos, if_neg, tn0, tn1, tn2, tn3, tn4, tn5, tn6, tn7, tn8, tn9, w32_id, w64_id, Nat.reduceAdd, reduceIte, Int.reduceLT, Int.reduceLE, Int.reduceEq, Int.reduceNe, Int.reduceAdd, Int.reduceSub, Int.reduceMul, Int.reduceNeg, Int.reduceToNat, ne_eq, not_true_eq_false, not_false_eq_true, true_and, and_true, false_and, and_false, true_or, or_true, false_or, or_false, if_true, if_false, and_self, or_self, ite_self]
    · have ne : ln k ≠ ln l := fun q => e (hinj k l hk2 hl q)
      rw [b404_10]
      rw [if_neg (show ¬ (k : Int) = l by omega)]
      rcases b3 with ⟨c1, c2⟩ | ⟨c1, c2, c3⟩
      · simp (disch := (first | assumption | omega | (simp only [up_app, Nat.reduceEqDiff, false_and, and_false, true_and, and_true, if_true, if_false, Nat.add_left_cancel_iff, Nat.add_right_cancel_iff, Nat.add_eq_left, Nat.left_eq_add, hX, tn0, tn1, tn2, tn3, tn4, tn5, tn6, tn7, tn8, tn9]; omega))) only [b404_14, b404_21, hX, vWC_n, vWC_s, vWC_x, if01a, if01b, if_pos, if_neg, tn0, tn1, tn2, tn3, tn4, tn5, tn6, tn7, tn8, tn9, w32_id, w64_id, Nat.reduceAdd, reduceIte, Int.reduceLT, Int.reduceLE, Int.reduceEq, Int.reduceNe, Int.reduceAdd, Int.reduceSub, Int.reduceMul, Int.reduceNeg, Int.reduceToNat, ne_eq, not_true_eq_false, not_false_eq_true, true_and, and_true, false_and, and_false, true_or, or_true, false_or, or_false, if_true, if_false, and_self, or_self, ite_self]
        rw [c1, c2]
        simp (disch := (first | assumption | omega | (simp only [up_app, Nat.reduceEqDiff, false_and, and_false, true_and, and_true, if_true, if_false, Nat.add_left_cancel_iff, Nat.add_right_cancel_iff, Nat.add_eq_left, Nat.left_eq_add, tn0, tn1, tn2, tn3, tn4, tn5, tn6, tn7, tn8, tn9]; omega))) only [b404_10, b404_34, vWC_n, vWC_s, vWC_x, if01a, if01b, if_pos, if_neg, tn0, tn1, tn2, tn3, tn4, tn5, tn6, tn7, tn8, tn9, w32_id, w64_id, Nat.reduceAdd, reduceIte, Int.reduceLT, Int.reduceLE, Int.reduceEq, Int.reduceNe, Int.reduceAdd, Int.reduceSub, Int.reduceMul, Int.reduceNeg, Int.reduceToNat, ne_eq, not_true_eq_false, not_false_eq_true, true_and, and_true, false_and, and_false, true_or, or_true, false_or, or_false, if_true, if_false, and_self, or_self, ite_self]
        rfl
      · simp (disch := (first | assumption | omega | (simp only [up_app, Nat.reduceEqDiff, false_and, and_false, true_and, and_true, if_true, if_false, Nat.add_left_cancel_iff, Nat.add_right_cancel_iff, Nat.add_eq_left, Nat.left_eq_add, hX, tn0, tn1, tn2, tn3, tn4, tn5, tn6, tn7, tn8, tn9]; omega))) only [b404_14, b404_21, hX, vWC_n, vWC_s, vWC_x, if01a, if01b, if_pos, if_neg, tn0, tn1, tn2, tn3, tn4, tn5, tn6, tn7, tn8, tn9, w32_id, w64_id, Nat.reduceAdd, reduceIte, Int.reduceLT, Int.reduceLE, Int.reduceEq, Int.reduceNe, Int.reduceAdd, Int.reduceSub, Int.reduceMul, Int.reduceNeg, Int.reduceToNat, ne_eq, not_true_eq_false, not_false_eq_true, true_and, and_true, false_and, and_false, true_or, or_true, false_or, or_false, if_true, if_false, and_self, or_self, ite_self]
        obtain ⟨j, hj⟩ : ∃ j : Nat, ar k = j := ⟨(ar k).toNat, by omega⟩
        rw [c3, hj]
        exact ih j (by omega) (by omega)
end
