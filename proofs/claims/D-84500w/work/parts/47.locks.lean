/-! ===== locks ===== -/
def wt (I : vJ) (l v : Nat) : Prop := I 1996 v = 1 ∧ I 1997 v = (l : Int)
def mn (I : vJ) (l i : Nat) (u : Int) : Prop := (u = -1 ∧ ∀ v, v < i → ¬ wt I l v) ∨ ∃ w : Nat, u = w ∧ w < i ∧ wt I l w ∧ ∀ v, v < i → wt I l v → I 1999 w ≤ I 1999 v
section
variable {d d' : Nat} {I I' : vJ} {Y Y' : vY}
theorem l_min {Q : vE → Prop} {l th : Nat} (hL : vL Y) (hl : l < 8) (hth : I 1990 3390 = th) (h8 : th ≤ 8) (hr : ∀ v, v < th → (0 ≤ I 1996 v ∧ I 1996 v ≤ 4) ∧ (0 ≤ I 1999 v ∧ I 1999 v < 1000000) ∧ inI (I 1997 v))
    (hQ : ∀ u, mn I l th u → ∀ x, vW d 165 (117, [vr 1990, vi l, vi u, vi x], [], (I, Y)) Q) :
    ∀ (m i : Nat) (u : Int), i + m = th → mn I l i u → vW d 165 (61, [vr 1990, vi l, vi u, vi i], [], (I, Y)) Q := by
  intro m
  induction m with
  | zero =>
    intro i u hi hu
    have hi : i = th := by omega
    subst hi
    simp (disch := (first | assumption | omega | (simp only [up_app, Nat.reduceEqDiff, false_and, and_false, true_and, and_true, if_true, if_false, Nat.add_left_cancel_iff, Nat.add_right_cancel_iff, Nat.add_eq_left, Nat.left_eq_add, tn0, tn1, tn2, tn3, tn4, tn5, tn6, tn7, tn8, tn9]; omega))) only [b165_61, hth, vWC_n, vWC_s, vWC_x, if01a, if01b, if_pos, if_neg, tn0, tn1, tn2, tn3, tn4, tn5, tn6, tn7, tn8, tn9, w32_id, w64_id, Nat.reduceAdd, reduceIte, Int.reduceLT, Int.reduceLE, Int.reduceEq, Int.reduceNe, Int.reduceAdd, Int.reduceSub, Int.reduceMul, Int.reduceNeg, Int.reduceToNat, ne_eq, not_true_eq_false, not_false_eq_true, true_and, and_true, false_and, and_false, true_or, or_true, false_or, or_false, if_true, if_false, and_self, or_self, ite_self]
    exact hQ u hu _
  | succ m ih =>
    intro i u hi hu
    obtain ⟨r1, r2, r3, r4⟩ := hr i (by omega)
    have hub : -1 ≤ u ∧ u < i := by
      rcases hu with ⟨a, _⟩ | ⟨w, a, b, _⟩ <;> omega
    have hod : ¬ u = -1 → 0 ≤ I 1999 u.toNat ∧ I 1999 u.toNat < 1000000 := by
      intro h
      rcases hu with ⟨a, _⟩ | ⟨w, a, b, _⟩
      · exact absurd a h
      · have := (hr w (by omega)).2.1
        rw [a]; exact this
    rw [b165_61 hL, hth]
    simp (disch := (first | assumption | omega | (simp only [up_app, Nat.reduceEqDiff, false_and, and_false, true_and, and_true, if_true, if_false, Nat.add_left_cancel_iff, Nat.add_right_cancel_iff, Nat.add_eq_left, Nat.left_eq_add, tn0, tn1, tn2, tn3, tn4, tn5, tn6, tn7, tn8, tn9]; omega))) only [vWC_n, vWC_s, vWC_x, if01a, if01b, if_pos, if_neg, tn0, tn1, tn2, tn3, tn4, tn5, tn6, tn7, tn8, tn9, w32_id, w64_id, Nat.reduceAdd, reduceIte, Int.reduceLT, Int.reduceLE, Int.reduceEq, Int.reduceNe, Int.reduceAdd, Int.reduceSub, Int.reduceMul, Int.reduceNeg, Int.reduceToNat, ne_eq, not_true_eq_false, not_false_eq_true, true_and, and_true, false_and, and_false, true_or, or_true, false_or, or_false, if_true, if_false, and_self, or_self, ite_self]
    by_cases c : wt I l i ∧ (u = -1 ∨ ¬ I 1999 u.toNat ≤ I 1999 i)
    · have nx := ih (i + 1) i (by omega) (Or.inr ⟨i, rfl, by omega, c.1, fun v hv hw => by
        by_cases z : v = i
        · rw [z]; exact Int.le_refl _
        · rcases hu with ⟨a, b⟩ | ⟨w, a, b, e, g⟩
          · exact absurd hw (b v (by omega))
          · have := g v (by omega) hw
            have c2 := c.2
            rw [a] at c2
            simp only [tn0] at c2
            omega⟩)
      obtain ⟨⟨c1, c2⟩, c3⟩ := c
      by_cases z : u = -1
      · simp (disch := (first | assumption | omega | (simp only [up_app, Nat.reduceEqDiff, false_and, and_false, true_and, and_true, if_true, if_false, Nat.add_left_cancel_iff, Nat.add_right_cancel_iff, Nat.add_eq_left, Nat.left_eq_add, tn0, tn1, tn2, tn3, tn4, tn5, tn6, tn7, tn8, tn9]; omega))) only [m165_69, m165_79, m165_89, b165_94, b165_109, b165_111, z, cst1, vWC_n, vWC_s, vWC_x, if01a, if01b, if_pos, if_neg, tn0, tn1, tn2, tn3, tn4, tn5, tn6, tn7, tn8, tn9, w32_id, w64_id, Nat.reduceAdd, reduceIte, Int.reduceLT, Int.reduceLE, Int.reduceEq, Int.reduceNe, Int.reduceAdd, Int.reduceSub, Int.reduceMul, Int.reduceNeg, Int.reduceToNat, ne_eq, not_true_eq_false, not_false_eq_true, true_and, and_true, false_and, and_false, true_or, or_true, false_or, or_false, if_true, if_false, and_self, or_self, ite_self]
        exact nx
      · have o1 := hod z
        have c3 := c3.resolve_left z
        simp (disch := (first | assumption | omega | (simp only [up_app, Nat.reduceEqDiff, false_and, and_false, true_and, and_true, if_true, if_false, Nat.add_left_cancel_iff, Nat.add_right_cancel_iff, Nat.add_eq_left, Nat.left_eq_add, tn0, tn1, tn2, tn3, tn4, tn5, tn6, tn7, tn8, tn9]; omega))) only [m165_69, m165_79, m165_89, b165_94, b165_109, b165_111, z, cst1, vWC_n, vWC_s, vWC_x, if01a, if01b, if_pos, if_neg, tn0, tn1, tn2, tn3, tn4, tn5, tn6, tn7, tn8, tn9, w32_id, w64_id, Nat.reduceAdd, reduceIte, Int.reduceLT, Int.reduceLE, Int.reduceEq, Int.reduceNe, Int.reduceAdd, Int.reduceSub, Int.reduceMul, Int.reduceNeg, Int.reduceToNat, ne_eq, not_true_eq_false, not_false_eq_true, true_and, and_true, false_and, and_false, true_or, or_true, false_or, or_false, if_true, if_false, and_self, or_self, ite_self]
        exact nx
    · have nx := ih (i + 1) u (by omega) (by
        rcases hu with ⟨a, b⟩ | ⟨w, a, b, e, g⟩
        · refine Or.inl ⟨a, fun v hv hw => ?_⟩
          by_cases z : v = i
          · subst z; exact c ⟨hw, Or.inl a⟩
          · exact b v (by omega) hw
        · refine Or.inr ⟨w, a, by omega, e, fun v hv hw => ?_⟩
          by_cases z : v = i
          · subst z
            apply Classical.byContradiction
            intro q
            exact c ⟨hw, Or.inr (by rw [a]; exact q)⟩
          · exact g v (by omega) hw)
      by_cases c1 : I 1996 i = 1
      · by_cases c2 : I 1997 i = (l : Int)
        · have z : ¬ u = -1 := fun z => c ⟨⟨c1, c2⟩, Or.inl z⟩
          have o1 := hod z
          have c3 : I 1999 u.toNat ≤ I 1999 i := Classical.byContradiction fun q => c ⟨⟨c1, c2⟩, Or.inr q⟩
          simp (disch := (first | assumption | omega | (simp only [up_app, Nat.reduceEqDiff, false_and, and_false, true_and, and_true, if_true, if_false, Nat.add_left_cancel_iff, Nat.add_right_cancel_iff, Nat.add_eq_left, Nat.left_eq_add, tn0, tn1, tn2, tn3, tn4, tn5, tn6, tn7, tn8, tn9]; omega))) only [m165_69, m165_79, m165_89, b165_94, b165_109, b165_111, z, cst1, vWC_n, vWC_s, vWC_x, if01a, if01b, if_pos, if_neg, tn0, tn1, tn2, tn3, tn4, tn5, tn6, tn7, tn8, tn9, w32_id, w64_id, Nat.reduceAdd, reduceIte, Int.reduceLT, Int.reduceLE, Int.reduceEq, Int.reduceNe, Int.reduceAdd, Int.reduceSub, Int.reduceMul, Int.reduceNeg, Int.reduceToNat, ne_eq, not_true_eq_false, not_false_eq_true, true_and, and_true, false_and, and_false, true_or, or_true, false_or, or_false, if_true, if_false, and_self, or_self, ite_self]
          exact nx
        · simp (disch := (first | assumption | omega | (simp only [up_app, Nat.reduceEqDiff, false_and, and_false, true_and, and_true, if_true, if_false, Nat.add_left_cancel_iff, Nat.add_right_cancel_iff, Nat.add_eq_left, Nat.left_eq_add, tn0, tn1, tn2, tn3, tn4, tn5, tn6, tn7, tn8, tn9]; omega))) only [b165_69, b165_79, b165_111, cst1, vWC_n, vWC_s, vWC_x, if01a, if01b, if_pos, if_neg, tn0, tn1, tn2, tn3, tn4, tn5, tn6, tn7, tn8, tn9, w32_id, w64_id, Nat.reduceAdd, reduceIte, Int.reduceLT, Int.reduceLE, Int.reduceEq, Int.reduceNe, Int.reduceAdd, Int.reduceSub, Int.reduceMul, Int.reduceNeg, Int.reduceToNat, ne_eq, not_true_eq_false, not_false_eq_true, true_and, and_true, false_and, and_false, true_or, or_true, false_or, or_false, if_true, if_false, and_self, or_self, ite_self]
          exact nx
      · simp (disch := (first | assumption | omega | (simp only [up_app, Nat.reduceEqDiff, false_and, and_false, true_and, and_true, if_true, if_false, Nat.add_left_cancel_iff, Nat.add_right_cancel_iff, Nat.add_eq_left, Nat.left_eq_add, tn0, tn1, tn2, tn3, tn4, tn5, tn6, tn7, tn8, tn9]; omega))) only [b165_69, b165_111, cst1, vWC_n, vWC_s, vWC_x, if01a, if01b, if_pos, if_neg, tn0, tn1, tn2, tn3, tn4, tn5, tn6, tn7, tn8, tn9, w32_id, w64_id, Nat.reduceAdd, reduceIte, Int.reduceLT, Int.reduceLE, Int.reduceEq, Int.reduceNe, Int.reduceAdd, Int.reduceSub, Int.reduceMul, Int.reduceNeg, Int.reduceToNat, ne_eq, not_true_eq_false, not_false_eq_true, true_and, and_true, false_and, and_false, true_or, or_true, false_or, or_false, if_true, if_false, and_self, or_self, ite_self]
        exact nx
end

/-- threads that wait for locks: the model's rows, in the order of their coming -/
def lQ (I I' : vJ) (th : Nat) : Prop := ∀ l, l < 8 → ∃ q : Nat, q ≤ 8 ∧ I' 2222 l = q ∧ (∀ k, k < q → ∃ u : Nat, u < th ∧ I' 2221 (8 * l + k) = u ∧ wt I l u) ∧ (∀ i k, i < k → k < q → I 1999 (I' 2221 (8 * l + i)).toNat < I 1999 (I' 2221 (8 * l + k)).toNat) ∧ (∀ u : Nat, u < th → wt I l u → ∃ k, k < q ∧ I' 2221 (8 * l + k) = u)
/-- threads, but for what they do -/
def tH (I I' : vJ) (th : Nat) : Prop := (I 1990 3390 = th ∧ I' 2075 7731 = th ∧ th ≤ 8) ∧ ∀ u, u < th → (I 1996 u = I' 2187 u ∧ 0 ≤ I 1996 u ∧ I 1996 u ≤ 4) ∧ ((I 1996 u = 1 ∨ I 1996 u = 2) → I 1997 u = I' 2188 u ∧ I 1998 u = I' 2189 u) ∧ inI (I 1997 u) ∧ inI (I' 2188 u) ∧ I 2000 u = I' 2190 u ∧ (I 2005 u = I' 2196 u ∧ (I 2005 u = 0 ∨ I 2005 u = 1)) ∧ (I 2005 u = 1 → I 2004 u = I' 2195 u ∧ 0 ≤ I 2004 u ∧ I 2004 u ≤ I 1990 3388) ∧ (0 ≤ I 1999 u ∧ ((I 1996 u = 1 → I 1999 u < I 1990 3393) ∧ (I 1996 u = 2 → I 1997 u < th)) ∧ I 1999 u < 1000000)
/-- locks -/
def lR (I I' : vJ) : Prop := ∀ l, l < 8 → (I 2017 l = I' 2211 l ∧ -1 ≤ I 2017 l ∧ (I 2017 l < 8 ∧ I 2017 l < I 1990 3390)) ∧ (I 2018 l = I' 2212 l ∧ 0 ≤ I 2018 l ∧ I 2018 l < 1000000) ∧ I 2019 l = I' 2214 l ∧ I 2020 l = I' 2215 l ∧ I 2021 l = I' 2216 l ∧ I 2022 l = I' 2217 l ∧ I 2023 l = I' 2218 l ∧ (I 2017 l ≠ -1 → I 2024 l = I' 2213 l) ∧ (I 2025 l = I' 2220 l ∧ 0 ≤ I 2025 l ∧ I 2025 l ≤ I 1990 3388) ∧ I 2026 l = I' 2219 l
section
variable {d d' : Nat} {I I' : vJ} {Y Y' : vY}
/-- the model's row moves up by one -/
theorem l_shift {Q : vE → Prop} {l q : Nat} {x2 : Int} (hL : vL Y) (hl : l < 8) (hq : q < 8) (hm : I 2222 l = q) (hQ : ∀ (J : vJ) x, (∀ c, c ≠ 2221 → J c = I c) → (∀ j, J 2221 j = if 8 * l ≤ j ∧ j < 8 * l + q then I 2221 (j + 1) else I 2221 j) → vW d 440 (129, [vr 2075, vi l, vi x2, vi x], [], (J, Y)) Q) :
    ∀ (m i : Nat) (K : vJ), i + m = q → (∀ c, c ≠ 2221 → K c = I c) → (∀ j, K 2221 j = if 8 * l ≤ j ∧ j < 8 * l + i then I 2221 (j + 1) else I 2221 j) → vW d 440 (89, [vr 2075, vi l, vi x2, vi i], [], (K, Y)) Q := by
  intro m
  induction m with
  | zero =>
    intro i K hi h1 h2
    have hi : i = q := by omega
    subst hi
    have r := h1 2222 (by decide)
    simp (disch := (first | assumption | omega | (simp only [up_app, Nat.reduceEqDiff, false_and, and_false, true_and, and_true, if_true, if_false, Nat.add_left_cancel_iff, Nat.add_right_cancel_iff, Nat.add_eq_left, Nat.left_eq_add, r, hm, tn0, tn1, tn2, tn3, tn4, tn5, tn6, tn7, tn8, tn9]; omega))) only [b440_89, r, hm, vWC_n, vWC_s, vWC_x, if01a, if01b, if_pos, if_neg, tn0, tn1, tn2, tn3, tn4, tn5, tn6, tn7, tn8, tn9, w32_id, w64_id, Nat.reduceAdd, reduceIte, Int.reduceLT, Int.reduceLE, Int.reduceEq, Int.reduceNe, Int.reduceAdd, Int.reduceSub, Int.reduceMul, Int.reduceNeg, Int.reduceToNat, ne_eq, not_true_eq_false, not_false_eq_true, true_and, and_true, false_and, and_false, true_or, or_true, false_or, or_false, if_true, if_false, and_self, or_self, ite_self]
    exact hQ K _ h1 h2
  | succ m ih =>
    intro i K hi h1 h2
    have r := h1 2222 (by decide)
    rw [b440_89 hL (by omega) (by omega)]
    have e : (8 * (l : Int) + i + 1).toNat = 8 * l + i + 1 := by omega
    simp (disch := (first | assumption | omega | (simp only [up_app, Nat.reduceEqDiff, false_and, and_false, true_and, and_true, if_true, if_false, Nat.add_left_cancel_iff, Nat.add_right_cancel_iff, Nat.add_eq_left, Nat.left_eq_add, r, hm, tn0, tn1, tn2, tn3, tn4, tn5, tn6, tn7, tn8, tn9]; omega))) only [b440_99, r, hm, e, cst1, vWC_n, vWC_s, vWC_x, if01a, if01b, if_pos, if_neg, tn0, tn1, tn2, tn3, tn4, tn5, tn6, tn7, tn8, tn9, w32_id, w64_id, Nat.reduceAdd, reduceIte, Int.reduceLT, Int.reduceLE, Int.reduceEq, Int.reduceNe, Int.reduceAdd, Int.reduceSub, Int.reduceMul, Int.reduceNeg, Int.reduceToNat, ne_eq, not_true_eq_false, not_false_eq_true, true_and, and_true, false_and, and_false, true_or, or_true, false_or, or_false, if_true, if_false, and_self, or_self, ite_self]
    refine ih (i + 1) _ (by omega) (fun c hc => by rw [up_row _ hc]; exact h1 c hc) (fun j => ?_)
    simp only [up_app, Nat.reduceEqDiff, false_and, and_false, true_and, and_true, if_true, if_false, Nat.add_left_cancel_iff, Nat.add_right_cancel_iff, Nat.add_eq_left, Nat.left_eq_add, h2]
    by_cases z : j = 8 * l + i
    · subst z
      rw [if_pos rfl, if_neg (by omega), if_pos (by omega)]
    · rw [if_neg z]
      by_cases z2 : 8 * l ≤ j ∧ j < 8 * l + i
      · rw [if_pos z2, if_pos (by omega)]
      · rw [if_neg z2, if_neg (by omega)]
end
