set_option maxRecDepth 20000
/-! ===== the tree of calls: Rows.of and place ===== -/
/-- the greatest j below b (from 2 on) with parent p -/
def lst (par : Nat → Int) (p : Int) : Nat → Int
  | 0 => -1
  | b + 1 => if 2 ≤ b ∧ par b = p then b else lst par p b
theorem lst_cases (par : Nat → Int) (p : Int) (b : Nat) : (lst par p b = -1 ∧ ∀ j, 2 ≤ j → j < b → par j ≠ p) ∨ ∃ j, lst par p b = (j : Nat) ∧ 2 ≤ j ∧ j < b ∧ par j = p ∧ ∀ i, j < i → i < b → par i ≠ p := by
  induction b with
  | zero => exact Or.inl ⟨rfl, fun j _ h => by omega⟩
  | succ b ih =>
    by_cases h : 2 ≤ b ∧ par b = p
    · exact Or.inr ⟨b, if_pos h, h.1, by omega, h.2, fun i h1 h2 => by omega⟩
    · have e : lst par p (b + 1) = lst par p b := if_neg h
      rw [e]
      rcases ih with ⟨h1, h2⟩ | ⟨j, h1, h2, h3, h4, h5⟩
      · refine Or.inl ⟨h1, fun j h3 h4 h6 => ?_⟩
        by_cases q : j = b
        · exact h ⟨by omega, q ▸ h6⟩
        · exact h2 j h3 (by omega) h6
      · refine Or.inr ⟨j, h1, h2, by omega, h4, fun i h6 h7 h8 => ?_⟩
        by_cases q : i = b
        · exact h ⟨by omega, q ▸ h8⟩
        · exact h5 i h6 (by omega) h8
theorem lst_congr {par par' : Nat → Int} {p : Int} {b : Nat} (h : ∀ j, j < b → par' j = par j) : lst par' p b = lst par p b := by
  induction b with
  | zero => rfl
  | succ b ih =>
    unfold lst
    rw [h b (by omega), ih (fun j hj => h j (by omega))]
def tW (n : Nat) (par mem chi sib : Nat → Int) : Prop := (par 0 = -1 ∧ par 1 = 0 ∧ mem 0 = -1 ∧ mem 1 = -1) ∧ (∀ i, 2 ≤ i → i < n → 0 ≤ par i ∧ par i < i ∧ par i ≠ 1 ∧ 0 ≤ mem i ∧ mem i < 24 ∧ sib i = lst par (par i) i) ∧ (∀ p : Nat, p < n → chi p = lst par p n) ∧ (∀ i j, 2 ≤ i → i < n → 2 ≤ j → j < n → par i = par j → mem i = mem j → i = j)
def tR (I I' : vJ) : Prop := ∃ n : Nat, (2 ≤ n ∧ n ≤ 200) ∧ I 1960 3079 = n ∧ I' 2075 7799 = n ∧ (∀ i, i < n → I 1961 i = I' 2237 i ∧ I 1962 i = I' 2238 i ∧ I 1963 i = I' 2239 i ∧ I 1964 i = I' 2240 i) ∧ tW n (I 1961) (I 1962) (I 1966) (I 1967)
/-- the house's list of children -/
theorem t_list {d : Nat} {Y : vY} {I : vJ} {Q : vE → Prop} {n : Nat} {p m fo : Int} (hL : vL Y) (hn : n ≤ 200) (hW : tW n (I 1961) (I 1962) (I 1966) (I 1967)) (hm : 0 ≤ m ∧ m < 24)
    (h1 : ∀ j : Nat, 2 ≤ j → j < n → I 1961 j = p → I 1962 j = m → Q (.inl (some (vi j)), (I, Y)))
    (h2 : (∀ j : Nat, 2 ≤ j → j < n → I 1961 j = p → I 1962 j ≠ m) → ∀ x, vW d 146 (87, [vr 1960, vi p, vi m, vi fo, vi x], [], (I, Y)) Q) :
    ∀ (b : Nat), b ≤ n → (∀ j : Nat, b ≤ j → j < n → I 1961 j = p → I 1962 j ≠ m) → vW d 146 (55, [vr 1960, vi p, vi m, vi fo, vi (lst (I 1961) p b)], [], (I, Y)) Q := by
  intro b
  induction b using Nat.strongRecOn with
  | _ b ih =>
    intro hb hno
    rcases lst_cases (I 1961) p b with ⟨e, g⟩ | ⟨j, e, g1, g2, g3, g4⟩
    · rw [e]
      simp (disch := (first | assumption | omega | (simp only [up_app, Nat.reduceEqDiff, false_and, and_false, true_and, and_true, if_true, if_false, Nat.add_left_cancel_iff, Nat.add_right_cancel_iff, Nat.add_eq_left, Nat.left_eq_add, tn0, tn1, tn2, tn3, tn4, tn5, tn6, tn7, tn8, tn9]; omega))) only [b146_55, vWC_n, vWC_s, vWC_x, if01a, if01b, if_pos, if_neg, tn0, tn1, tn2, tn3, tn4, tn5, tn6, tn7, tn8, tn9, w32_id, w64_id, Nat.reduceAdd, reduceIte, Int.reduceLT, Int.reduceLE, Int.reduceEq, Int.reduceNe, Int.reduceAdd, Int.reduceSub, Int.reduceMul, Int.reduceNeg, Int.reduceToNat, ne_eq, not_true_eq_false, not_false_eq_true, true_and, and_true, false_and, and_false, true_or, or_true, false_or, or_false, if_true, if_false, and_self, or_self, ite_self]
      refine h2 (fun j j1 j2 j3 => ?_) _
      by_cases q : j < b
      · exact absurd j3 (g j j1 q)
      · exact hno j (by omega) j2 j3
    · rw [e]
      have w := hW.2.1 j g1 (by omega)
      rw [b146_55]
      simp (disch := (first | assumption | omega | (simp only [up_app, Nat.reduceEqDiff, false_and, and_false, true_and, and_true, if_true, if_false, Nat.add_left_cancel_iff, Nat.add_right_cancel_iff, Nat.add_eq_left, Nat.left_eq_add, tn0, tn1, tn2, tn3, tn4, tn5, tn6, tn7, tn8, tn9]; omega))) only [b146_61, b146_72, b146_75, vWC_n, vWC_s, vWC_x, if01a, if01b, if_pos, if_neg, tn0, tn1, tn2, tn3, tn4, tn5, tn6, tn7, tn8, tn9, w32_id, w64_id, Nat.reduceAdd, reduceIte, Int.reduceLT, Int.reduceLE, Int.reduceEq, Int.reduceNe, Int.reduceAdd, Int.reduceSub, Int.reduceMul, Int.reduceNeg, Int.reduceToNat, ne_eq, not_true_eq_false, not_false_eq_true, true_and, and_true, false_and, and_false, true_or, or_true, false_or, or_false, if_true, if_false, and_self, or_self, ite_self]
      by_cases q : I 1962 j = m
      · simp only [q, not_true_eq_false, if_false]
        exact h1 j g1 (by omega) g3 q
      · simp only [q, not_false_eq_true, if_true]
        rw [w.2.2.2.2.2, g3]
        refine ih j g2 (by omega) (fun i i1 i2 i3 => ?_)
        by_cases z : i = j
        · rw [z]; exact q
        · by_cases z2 : i < b
          · exact absurd i3 (g4 i (by omega) z2)
          · exact hno i (by omega) i2 i3
/-- the model's search -/
theorem t_scan {d : Nat} {Y : vY} {I : vJ} {Q : vE → Prop} {n : Nat} {p m : Int} (hL : vL Y) (hn : n ≤ 200) (hT : I 2075 7799 = n) (hm : 0 ≤ m ∧ m < 24) (hr : ∀ j : Nat, 2 ≤ j → j < n → -1 ≤ I 2237 j ∧ I 2237 j < 200 ∧ -1 ≤ I 2238 j ∧ I 2238 j < 24) (hp : 0 ≤ p ∧ p < 200)
    (h1 : ∀ j : Nat, 2 ≤ j → j < n → I 2237 j = p → I 2238 j = m → Q (.inl (some (vi j)), (I, Y)))
    (h2 : (∀ j : Nat, 2 ≤ j → j < n → I 2237 j = p → I 2238 j ≠ m) → ∀ x, vW d 402 (81, [vr 2075, vi m, vi p, vi x], [], (I, Y)) Q) :
    ∀ (k i : Nat), i + k = n → 2 ≤ i → (∀ j : Nat, 2 ≤ j → j < i → I 2237 j = p → I 2238 j ≠ m) → vW d 402 (45, [vr 2075, vi m, vi p, vi i], [], (I, Y)) Q := by
  intro k
  induction k with
  | zero =>
    intro i hi _ hno
    simp (disch := (first | assumption | omega | (simp only [up_app, Nat.reduceEqDiff, false_and, and_false, true_and, and_true, if_true, if_false, Nat.add_left_cancel_iff, Nat.add_right_cancel_iff, Nat.add_eq_left, Nat.left_eq_add, tn0, tn1, tn2, tn3, tn4, tn5, tn6, tn7, tn8, tn9]; omega))) only [b402_45, hT, vWC_n, vWC_s, vWC_x, if01a, if01b, if_pos, if_neg, tn0, tn1, tn2, tn3, tn4, tn5, tn6, tn7, tn8, tn9, w32_id, w64_id, Nat.reduceAdd, reduceIte, Int.reduceLT, Int.reduceLE, Int.reduceEq, Int.reduceNe, Int.reduceAdd, Int.reduceSub, Int.reduceMul, Int.reduceNeg, Int.reduceToNat, ne_eq, not_true_eq_false, not_false_eq_true, true_and, and_true, false_and, and_false, true_or, or_true, false_or, or_false, if_true, if_false, and_self, or_self, ite_self]
    exact h2 (fun j j1 j2 => hno j j1 (by omega)) _
  | succ k ih =>
    intro i hi h2i hno
    have w := hr i h2i (by omega)
    rw [b402_45 hL]
    simp (disch := (first | assumption | omega | (simp only [up_app, Nat.reduceEqDiff, false_and, and_false, true_and, and_true, if_true, if_false, Nat.add_left_cancel_iff, Nat.add_right_cancel_iff, Nat.add_eq_left, Nat.left_eq_add, tn0, tn1, tn2, tn3, tn4, tn5, tn6, tn7, tn8, tn9]; omega))) only [b402_53, b402_63, b402_73, b402_75, hT, cst1, vWC_n, vWC_s, vWC_x, if01a, if01b, if_pos, if_neg, tn0, tn1, tn2, tn3, tn4, tn5, tn6, tn7, tn8, tn9, w32_id, w64_id, Nat.reduceAdd, reduceIte, Int.reduceLT, Int.reduceLE, Int.reduceEq, Int.reduceNe, Int.reduceAdd, Int.reduceSub, Int.reduceMul, Int.reduceNeg, Int.reduceToNat, ne_eq, not_true_eq_false, not_false_eq_true, true_and, and_true, false_and, and_false, true_or, or_true, false_or, or_false, if_true, if_false, and_self, or_self, ite_self]
    have nx : (I 2237 i = p → I 2238 i ≠ m) → vW d 402 (45, [vr 2075, vi m, vi p, vi ((i + 1 : Nat) : Int)], [], (I, Y)) Q := fun g => ih (i + 1) (by omega) (by omega) (fun j j1 j2 => by
      by_cases z : j = i
      · rw [z]; exact g
      · exact hno j j1 (by omega))
    by_cases q : I 2237 i = p
    · by_cases q2 : I 2238 i = m
      · simp only [q, q2, not_true_eq_false, if_false]
        exact h1 i h2i (by omega) q q2
      · simp only [q, q2, not_true_eq_false, if_false, not_false_eq_true, if_true]
        exact nx (fun _ => q2)
    · simp only [q, not_false_eq_true, if_true]
      exact nx (fun z => absurd z q)

/-- where both houses look upwards -/
theorem t_up {d d' : Nat} {Y Y' : vY} {I I' : vJ} {Q : vE → vE → Prop} {n : Nat} {p m : Int} (hL : vL Y) (hL' : vL Y') (hn : n ≤ 200) (hn2 : 2 ≤ n) (he : ∀ i, i < n → I 1961 i = I' 2237 i ∧ I 1962 i = I' 2238 i) (hW : tW n (I 1961) (I 1962) (I 1966) (I 1967)) (hm : 0 ≤ m ∧ m < 24)
    (h1 : ∀ j : Nat, 2 ≤ j → j < n → Q (.inl (some (vi j)), (I, Y)) (.inl (some (vi j)), (I', Y')))
    (h2 : ∀ x x', vW d 146 (47, [vr 1960, vi p, vi m, vi 1, vi x], [], (I, Y)) (fun r => vW d' 402 (43, [vr 2075, vi m, vi p, vi x'], [], (I', Y')) (fun r' => Q r r'))) :
    ∀ (q : Nat), q < n → vW d 146 (10, [vr 1960, vi p, vi m, vi 1, vi q], [], (I, Y)) (fun r => vW d' 402 (17, [vr 2075, vi m, vi p, vi q], [], (I', Y')) (fun r' => Q r r')) := by
  intro q
  obtain ⟨⟨w0, w1, w2, w3⟩, w4, _⟩ := hW
  induction q using Nat.strongRecOn with
  | _ q ih =>
    intro hq
    have e := he q hq
    by_cases q2 : q ≤ 1
    · have f1 : I' 2238 1 = -1 := by have := he 1; omega
      have f2 : I' 2238 0 = -1 := by have := he 0; omega
      have f3 : I' 2237 1 = 0 := by have := he 1; omega
      have f4 : I' 2237 0 = -1 := by have := he 0; omega
      have g0 : ∀ Q', vW d' 402 (17, [vr 2075, vi m, vi p, vi 0], [], (I', Y')) Q' ↔ vW d' 402 (17, [vr 2075, vi m, vi p, vi (-1)], [], (I', Y')) Q' := by
        intro Q'
        rw [b402_17]
        simp (disch := (first | assumption | omega | (simp only [up_app, Nat.reduceEqDiff, false_and, and_false, true_and, and_true, if_true, if_false, Nat.add_left_cancel_iff, Nat.add_right_cancel_iff, Nat.add_eq_left, Nat.left_eq_add, tn0, tn1, tn2, tn3, tn4, tn5, tn6, tn7, tn8, tn9]; omega))) only [b402_21, b402_33, f2, f4, vWC_n, vWC_s, vWC_x, if01a, if01b, if_pos, if_neg, tn0, tn1, tn2, tn3, tn4, tn5, tn6, tn7, tn8, tn9, w32_id, w64_id, Nat.reduceAdd, reduceIte, Int.reduceLT, Int.reduceLE, Int.reduceEq, Int.reduceNe, Int.reduceAdd, Int.reduceSub, Int.reduceMul, Int.reduceNeg, Int.reduceToNat, ne_eq, not_true_eq_false, not_false_eq_true, true_and, and_true, false_and, and_false, true_or, or_true, false_or, or_false, if_true, if_false, and_self, or_self, ite_self]
      have g1 : ∀ Q', vW d' 402 (17, [vr 2075, vi m, vi p, vi (-1)], [], (I', Y')) Q' ↔ vW d' 402 (43, [vr 2075, vi m, vi p, vi (-1)], [], (I', Y')) Q' := by
        intro Q'
        simp (disch := (first | assumption | omega | (simp only [up_app, Nat.reduceEqDiff, false_and, and_false, true_and, and_true, if_true, if_false, Nat.add_left_cancel_iff, Nat.add_right_cancel_iff, Nat.add_eq_left, Nat.left_eq_add, tn0, tn1, tn2, tn3, tn4, tn5, tn6, tn7, tn8, tn9]; omega))) only [b402_17, vWC_n, vWC_s, vWC_x, if01a, if01b, if_pos, if_neg, tn0, tn1, tn2, tn3, tn4, tn5, tn6, tn7, tn8, tn9, w32_id, w64_id, Nat.reduceAdd, reduceIte, Int.reduceLT, Int.reduceLE, Int.reduceEq, Int.reduceNe, Int.reduceAdd, Int.reduceSub, Int.reduceMul, Int.reduceNeg, Int.reduceToNat, ne_eq, not_true_eq_false, not_false_eq_true, true_and, and_true, false_and, and_false, true_or, or_true, false_or, or_false, if_true, if_false, and_self, or_self, ite_self]
      have g2 : ∀ Q', vW d' 402 (17, [vr 2075, vi m, vi p, vi 1], [], (I', Y')) Q' ↔ vW d' 402 (17, [vr 2075, vi m, vi p, vi 0], [], (I', Y')) Q' := by
        intro Q'
        rw [b402_17]
        simp (disch := (first | assumption | omega | (simp only [up_app, Nat.reduceEqDiff, false_and, and_false, true_and, and_true, if_true, if_false, Nat.add_left_cancel_iff, Nat.add_right_cancel_iff, Nat.add_eq_left, Nat.left_eq_add, tn0, tn1, tn2, tn3, tn4, tn5, tn6, tn7, tn8, tn9]; omega))) only [b402_21, b402_33, f1, f3, vWC_n, vWC_s, vWC_x, if01a, if01b, if_pos, if_neg, tn0, tn1, tn2, tn3, tn4, tn5, tn6, tn7, tn8, tn9, w32_id, w64_id, Nat.reduceAdd, reduceIte, Int.reduceLT, Int.reduceLE, Int.reduceEq, Int.reduceNe, Int.reduceAdd, Int.reduceSub, Int.reduceMul, Int.reduceNeg, Int.reduceToNat, ne_eq, not_true_eq_false, not_false_eq_true, true_and, and_true, false_and, and_false, true_or, or_true, false_or, or_false, if_true, if_false, and_self, or_self, ite_self]
      have : q = 0 ∨ q = 1 := by omega
      rcases this with rfl | rfl
      · simp (disch := (first | assumption | omega | (simp only [up_app, Nat.reduceEqDiff, false_and, and_false, true_and, and_true, if_true, if_false, Nat.add_left_cancel_iff, Nat.add_right_cancel_iff, Nat.add_eq_left, Nat.left_eq_add, tn0, tn1, tn2, tn3, tn4, tn5, tn6, tn7, tn8, tn9]; omega))) only [b146_10, vWC_n, vWC_s, vWC_x, if01a, if01b, if_pos, if_neg, tn0, tn1, tn2, tn3, tn4, tn5, tn6, tn7, tn8, tn9, w32_id, w64_id, Nat.reduceAdd, reduceIte, Int.reduceLT, Int.reduceLE, Int.reduceEq, Int.reduceNe, Int.reduceAdd, Int.reduceSub, Int.reduceMul, Int.reduceNeg, Int.reduceToNat, ne_eq, not_true_eq_false, not_false_eq_true, true_and, and_true, false_and, and_false, true_or, or_true, false_or, or_false, if_true, if_false, and_self, or_self, ite_self]
        have z : ((0 : Nat) : Int) = 0 := rfl
        simp only [z, g0, g1]
        exact h2 _ _
      · simp (disch := (first | assumption | omega | (simp only [up_app, Nat.reduceEqDiff, false_and, and_false, true_and, and_true, if_true, if_false, Nat.add_left_cancel_iff, Nat.add_right_cancel_iff, Nat.add_eq_left, Nat.left_eq_add, tn0, tn1, tn2, tn3, tn4, tn5, tn6, tn7, tn8, tn9]; omega))) only [b146_10, vWC_n, vWC_s, vWC_x, if01a, if01b, if_pos, if_neg, tn0, tn1, tn2, tn3, tn4, tn5, tn6, tn7, tn8, tn9, w32_id, w64_id, Nat.reduceAdd, reduceIte, Int.reduceLT, Int.reduceLE, Int.reduceEq, Int.reduceNe, Int.reduceAdd, Int.reduceSub, Int.reduceMul, Int.reduceNeg, Int.reduceToNat, ne_eq, not_true_eq_false, not_false_eq_true, true_and, and_true, false_and, and_false, true_or, or_true, false_or, or_false, if_true, if_false, and_self, or_self, ite_self]
        have z : ((1 : Nat) : Int) = 1 := rfl
        simp only [z, g2, g0, g1]
        exact h2 _ _
    · have w := w4 q (by omega) hq
      obtain ⟨z, hz⟩ : ∃ z : Nat, I 1961 q = z := ⟨(I 1961 q).toNat, by omega⟩
      have := ih z (by omega) (by omega)
      rw [b146_10]
      simp only [b402_17 (x3 := (q : Int))]
      simp (disch := (first | assumption | omega | (simp only [up_app, Nat.reduceEqDiff, false_and, and_false, true_and, and_true, if_true, if_false, Nat.add_left_cancel_iff, Nat.add_right_cancel_iff, Nat.add_eq_left, Nat.left_eq_add, tn0, tn1, tn2, tn3, tn4, tn5, tn6, tn7, tn8, tn9]; omega))) only [b146_16, b146_21, b146_32, b146_35, b402_21, b402_31, b402_33, vWC_n, vWC_s, vWC_x, if01a, if01b, if_pos, if_neg, tn0, tn1, tn2, tn3, tn4, tn5, tn6, tn7, tn8, tn9, w32_id, w64_id, Nat.reduceAdd, reduceIte, Int.reduceLT, Int.reduceLE, Int.reduceEq, Int.reduceNe, Int.reduceAdd, Int.reduceSub, Int.reduceMul, Int.reduceNeg, Int.reduceToNat, ne_eq, not_true_eq_false, not_false_eq_true, true_and, and_true, false_and, and_false, true_or, or_true, false_or, or_false, if_true, if_false, and_self, or_self, ite_self]
      rw [← e.1, hz]
      split
      · exact this
      · exact h1 q (by omega) hq
def tF (I J : vJ) : Prop := (∀ c, c < 1960 ∨ 1967 < c ∨ c = 1965 → J c = I c) ∧ ∀ f, f ≠ 3079 → J 1960 f = I 1960 f
def tF' (I J : vJ) : Prop := (∀ c, c ≠ 2075 → c < 2237 ∨ 2240 < c → J c = I c) ∧ ∀ f, f ≠ 7799 → J 2075 f = I 2075 f
theorem tF_refl (I : vJ) : tF I I := ⟨fun _ _ => rfl, fun _ _ => rfl⟩
theorem tF'_refl (I : vJ) : tF' I I := ⟨fun _ _ _ => rfl, fun _ _ => rfl⟩
theorem t_new {I I' : vJ} {n p : Nat} {m : Int} (hn : 2 ≤ n ∧ n < 200) (h1 : I 1960 3079 = n) (h2 : I' 2075 7799 = n) (he : ∀ i, i < n → I 1961 i = I' 2237 i ∧ I 1962 i = I' 2238 i ∧ I 1963 i = I' 2239 i ∧ I 1964 i = I' 2240 i) (hW : tW n (I 1961) (I 1962) (I 1966) (I 1967)) (hp : p < n) (hp1 : p ≠ 1) (hm : 0 ≤ m ∧ m < 24) (hno : ∀ j : Nat, 2 ≤ j → j < n → I 1961 j = p → I 1962 j ≠ m) :
    tR (up (up (up (up (up (up (up (up I 1966 n (-1)) 1967 n (I 1966 p)) 1966 p n) 1961 n p) 1962 n m) 1963 n 0) 1964 n 0) 1960 3079 (n + 1)) (up (up (up (up (up I' 2237 n p) 2238 n m) 2239 n 0) 2240 n 0) 2075 7799 (n + 1)) := by
  obtain ⟨⟨w0, w1, w2, w3⟩, w4, w5, w6⟩ := hW
  refine ⟨n + 1, by omega, ?_, ?_, fun i hi => ?_, ?_⟩
  · simp only [up_app, Nat.reduceEqDiff, false_and, and_false, true_and, and_true, if_true, if_false, Nat.add_left_cancel_iff, Nat.add_right_cancel_iff, Nat.add_eq_left, Nat.left_eq_add]; omega
  · simp only [up_app, Nat.reduceEqDiff, false_and, and_false, true_and, and_true, if_true, if_false, Nat.add_left_cancel_iff, Nat.add_right_cancel_iff, Nat.add_eq_left, Nat.left_eq_add]; omega
  · simp only [up_app, Nat.reduceEqDiff, false_and, and_false, true_and, and_true, if_true, if_false, Nat.add_left_cancel_iff, Nat.add_right_cancel_iff, Nat.add_eq_left, Nat.left_eq_add]
    by_cases q : i = n
    · simp only [q, if_true]; exact ⟨trivial, trivial, trivial, trivial⟩
    · simp only [q, if_false]; exact he i (by omega)
  · have e1 : ∀ j, j < n → up (up (up (up (up (up (up (up I 1966 n (-1)) 1967 n (I 1966 p)) 1966 p n) 1961 n p) 1962 n m) 1963 n 0) 1964 n 0) 1960 3079 (n + 1) 1961 j = I 1961 j := fun j hj => by
      have : ¬ j = n := by omega
      simp only [up_app, Nat.reduceEqDiff, false_and, and_false, true_and, and_true, if_true, if_false, Nat.add_left_cancel_iff, Nat.add_right_cancel_iff, Nat.add_eq_left, Nat.left_eq_add, this]
    have e2 : ∀ q b, b ≤ n → lst (up (up (up (up (up (up (up (up I 1966 n (-1)) 1967 n (I 1966 p)) 1966 p n) 1961 n p) 1962 n m) 1963 n 0) 1964 n 0) 1960 3079 (n + 1) 1961) q b = lst (I 1961) q b := fun q b hb => lst_congr (fun j hj => e1 j (by omega))
    refine ⟨?_, fun i i1 i2 => ?_, fun q hq => ?_, fun i j i1 i2 j1 j2 => ?_⟩
    · have a1 : ¬ 0 = n := by omega
      have a2 : ¬ 1 = n := by omega
      simp only [up_app, Nat.reduceEqDiff, false_and, and_false, true_and, and_true, if_true, if_false, Nat.add_left_cancel_iff, Nat.add_right_cancel_iff, Nat.add_eq_left, Nat.left_eq_add, a1, a2]; exact ⟨w0, w1, w2, w3⟩
    · by_cases q : i = n
      · subst q
        rw [e2 _ _ (Nat.le_refl _)]
        have a1 : ¬ i = p := by omega
        simp only [up_app, Nat.reduceEqDiff, false_and, and_false, true_and, and_true, if_true, if_false, Nat.add_left_cancel_iff, Nat.add_right_cancel_iff, Nat.add_eq_left, Nat.left_eq_add, a1]
        exact ⟨by omega, by omega, by omega, hm.1, hm.2, w5 p hp⟩
      · have w := w4 i i1 (by omega)
        rw [e2 _ _ (by omega)]
        simp only [up_app, Nat.reduceEqDiff, false_and, and_false, true_and, and_true, if_true, if_false, Nat.add_left_cancel_iff, Nat.add_right_cancel_iff, Nat.add_eq_left, Nat.left_eq_add, q]
        exact w
    · rw [show lst _ (q : Int) (n + 1) = if 2 ≤ n ∧ (p : Int) = q then (n : Int) else lst (I 1961) q n by
        rw [← e2 q n (Nat.le_refl _)]
        conv => lhs; unfold lst
        simp only [up_app, Nat.reduceEqDiff, false_and, and_false, true_and, and_true, if_true, if_false, Nat.add_left_cancel_iff, Nat.add_right_cancel_iff, Nat.add_eq_left, Nat.left_eq_add]]
      simp only [up_app, Nat.reduceEqDiff, false_and, and_false, true_and, and_true, if_true, if_false, Nat.add_left_cancel_iff, Nat.add_right_cancel_iff, Nat.add_eq_left, Nat.left_eq_add]
      by_cases z : q = p
      · subst z; simp only [if_true, hn.1, and_self]
      · have z2 : ¬ ((p : Int) = q) := by omega
        simp only [z, z2, if_false, and_false]
        by_cases z3 : q = n
        · subst z3
          simp only [if_true]
          rcases lst_cases (I 1961) q q with ⟨e, _⟩ | ⟨j, _, g1, g2, g3, _⟩
          · exact e.symm
          · have := w4 j g1 g2; omega
        · simp only [z3, if_false]; exact w5 q (by omega)
    · by_cases qi : i = n
      · by_cases qj : j = n
        · intro _ _; omega
        · simp only [up_app, Nat.reduceEqDiff, false_and, and_false, true_and, and_true, if_true, if_false, Nat.add_left_cancel_iff, Nat.add_right_cancel_iff, Nat.add_eq_left, Nat.left_eq_add, qi, qj]
          intro a1 a2
          exact absurd a2.symm (hno j j1 (by omega) a1.symm)
      · by_cases qj : j = n
        · simp only [up_app, Nat.reduceEqDiff, false_and, and_false, true_and, and_true, if_true, if_false, Nat.add_left_cancel_iff, Nat.add_right_cancel_iff, Nat.add_eq_left, Nat.left_eq_add, qi, qj]
          intro a1 a2
          exact absurd a2 (hno i i1 (by omega) a1)
        · simp only [up_app, Nat.reduceEqDiff, false_and, and_false, true_and, and_true, if_true, if_false, Nat.add_left_cancel_iff, Nat.add_right_cancel_iff, Nat.add_eq_left, Nat.left_eq_add, qi, qj]
          exact w6 i j i1 (by omega) j1 (by omega)
theorem t_of {d d' : Nat} {Y Y' : vY} {I I' : vJ} {Q : vE → vE → Prop} {n p : Nat} {m fo : Int} (hL : vL Y) (hL' : vL Y') (hR : tR I I') (hn : I 1960 3079 = n) (hp : p < n) (hm : 0 ≤ m ∧ m < 24) (hf : fo = 0 ∨ fo = 1) (hf' : I' 2075 7732 = fo)
    (hQ : ∀ (J J' : vJ) (n' q : Nat), tR J J' → J 1960 3079 = n' → n ≤ n' → q < n' → q ≠ 0 → tF I J → tF' I' J' → Q (.inl (some (vi q)), (J, Y)) (.inl (some (vi q)), (J', Y'))) :
    vW d 146 (0, [vr 1960, vi p, vi m, vi fo, vu], [], (I, Y)) (fun r => vW d' 402 (0, [vr 2075, vi m, vi p, vu], [], (I', Y')) (fun r' => Q r r')) := by
  have hR0 := hR
  obtain ⟨n1, ⟨hn1, hn2⟩, r1, r2, r3, r4⟩ := hR
  have : n1 = n := by omega
  subst this
  by_cases hp1 : p = 1
  · subst hp1
    have z : ((1 : Nat) : Int) = 1 := rfl
    simp only [z]
    simp (disch := (first | assumption | omega | (simp only [up_app, Nat.reduceEqDiff, false_and, and_false, true_and, and_true, if_true, if_false, Nat.add_left_cancel_iff, Nat.add_right_cancel_iff, Nat.add_eq_left, Nat.left_eq_add, tn0, tn1, tn2, tn3, tn4, tn5, tn6, tn7, tn8, tn9]; omega))) only [b146_0, b146_5, b402_0, b402_5, vWC_n, vWC_s, vWC_x, if01a, if01b, if_pos, if_neg, tn0, tn1, tn2, tn3, tn4, tn5, tn6, tn7, tn8, tn9, w32_id, w64_id, Nat.reduceAdd, reduceIte, Int.reduceLT, Int.reduceLE, Int.reduceEq, Int.reduceNe, Int.reduceAdd, Int.reduceSub, Int.reduceMul, Int.reduceNeg, Int.reduceToNat, ne_eq, not_true_eq_false, not_false_eq_true, true_and, and_true, false_and, and_false, true_or, or_true, false_or, or_false, if_true, if_false, and_self, or_self, ite_self]
    exact hQ I I' n1 1 hR0 hn (Nat.le_refl _) (by omega) (by omega) (tF_refl I) (tF'_refl I')
  · have key : ∀ x x', vW d 146 (47, [vr 1960, vi p, vi m, vi fo, vi x], [], (I, Y)) (fun r => vW d' 402 (43, [vr 2075, vi m, vi p, x'], [], (I', Y')) (fun r' => Q r r')) := by
      intro x x'
      simp (disch := (first | assumption | omega | (simp only [up_app, Nat.reduceEqDiff, false_and, and_false, true_and, and_true, if_true, if_false, Nat.add_left_cancel_iff, Nat.add_right_cancel_iff, Nat.add_eq_left, Nat.left_eq_add, tn0, tn1, tn2, tn3, tn4, tn5, tn6, tn7, tn8, tn9]; omega))) only [b146_47, b402_43, vWC_n, vWC_s, vWC_x, if01a, if01b, if_pos, if_neg, tn0, tn1, tn2, tn3, tn4, tn5, tn6, tn7, tn8, tn9, w32_id, w64_id, Nat.reduceAdd, reduceIte, Int.reduceLT, Int.reduceLE, Int.reduceEq, Int.reduceNe, Int.reduceAdd, Int.reduceSub, Int.reduceMul, Int.reduceNeg, Int.reduceToNat, ne_eq, not_true_eq_false, not_false_eq_true, true_and, and_true, false_and, and_false, true_or, or_true, false_or, or_false, if_true, if_false, and_self, or_self, ite_self]
      rw [r4.2.2.1 p hp]
      have two : (2 : Int) = ((2 : Nat) : Int) := rfl
      have hr : ∀ j : Nat, 2 ≤ j → j < n1 → -1 ≤ I' 2237 j ∧ I' 2237 j < 200 ∧ -1 ≤ I' 2238 j ∧ I' 2238 j < 24 := fun j j1 j2 => by
        have a := r3 j j2; have b := r4.2.1 j j1 j2; omega
      refine t_list hL hn2 r4 hm (fun j j1 j2 j3 j4 => ?_) (fun hno x2 => ?_) n1 (Nat.le_refl _) (fun j j1 j2 => by omega)
      · rw [two]
        refine t_scan hL' hn2 r2 hm hr (by omega) (fun i i1 i2 i3 i4 => ?_) (fun hno _ => ?_) (n1 - 2) 2 (by omega) (Nat.le_refl _) (fun j j1 j2 => by omega)
        · have a := r3 i i2
          have : i = j := r4.2.2.2 i j i1 i2 j1 j2 (by omega) (by omega)
          subst this
          exact hQ I I' n1 i hR0 hn (Nat.le_refl _) i2 (by omega) (tF_refl I) (tF'_refl I')
        · have a := r3 j j2
          exact absurd (by omega) (hno j j1 j2 (by omega))
      · rw [two]
        apply vW_swap.mpr
        refine t_scan hL' hn2 r2 hm hr (by omega) (fun i i1 i2 i3 i4 => ?_) (fun _ x3 => ?_) (n1 - 2) 2 (by omega) (Nat.le_refl _) (fun j j1 j2 => by omega)
        · have a := r3 i i2
          exact absurd (by omega) (hno i i1 i2 (by omega))
        · by_cases h200 : n1 = 200
          · simp (disch := (first | assumption | omega | (simp only [up_app, Nat.reduceEqDiff, false_and, and_false, true_and, and_true, if_true, if_false, Nat.add_left_cancel_iff, Nat.add_right_cancel_iff, Nat.add_eq_left, Nat.left_eq_add, tn0, tn1, tn2, tn3, tn4, tn5, tn6, tn7, tn8, tn9]; omega))) only [b146_87, b146_97, b402_81, b402_91, vWC_n, vWC_s, vWC_x, if01a, if01b, if_pos, if_neg, tn0, tn1, tn2, tn3, tn4, tn5, tn6, tn7, tn8, tn9, w32_id, w64_id, Nat.reduceAdd, reduceIte, Int.reduceLT, Int.reduceLE, Int.reduceEq, Int.reduceNe, Int.reduceAdd, Int.reduceSub, Int.reduceMul, Int.reduceNeg, Int.reduceToNat, ne_eq, not_true_eq_false, not_false_eq_true, true_and, and_true, false_and, and_false, true_or, or_true, false_or, or_false, if_true, if_false, and_self, or_self, ite_self]
            exact hQ I I' n1 1 hR0 hn (Nat.le_refl _) (by omega) (by omega) (tF_refl I) (tF'_refl I')
          · simp (disch := (first | assumption | omega | (simp only [up_app, Nat.reduceEqDiff, false_and, and_false, true_and, and_true, if_true, if_false, Nat.add_left_cancel_iff, Nat.add_right_cancel_iff, Nat.add_eq_left, Nat.left_eq_add, tn0, tn1, tn2, tn3, tn4, tn5, tn6, tn7, tn8, tn9]; omega))) only [b146_87, b146_99, b402_81, b402_93, hn, r2, vWC_n, vWC_s, vWC_x, if01a, if01b, if_pos, if_neg, tn0, tn1, tn2, tn3, tn4, tn5, tn6, tn7, tn8, tn9, w32_id, w64_id, Nat.reduceAdd, reduceIte, Int.reduceLT, Int.reduceLE, Int.reduceEq, Int.reduceNe, Int.reduceAdd, Int.reduceSub, Int.reduceMul, Int.reduceNeg, Int.reduceToNat, ne_eq, not_true_eq_false, not_false_eq_true, true_and, and_true, false_and, and_false, true_or, or_true, false_or, or_false, if_true, if_false, and_self, or_self, ite_self]
            have a1 : ¬ p = n1 := by omega
            simp only [up_app, Nat.reduceEqDiff, false_and, and_false, true_and, and_true, if_true, if_false, Nat.add_left_cancel_iff, Nat.add_right_cancel_iff, Nat.add_eq_left, Nat.left_eq_add, a1]
            have := t_new (m := m) (p := p) ⟨hn1, by omega⟩ hn r2 r3 r4 hp hp1 hm hno
            rw [show (n1 : Int) + 1 - 1 = n1 by omega]
            refine hQ _ _ (n1 + 1) n1 this ?_ (by omega) (by omega) (by omega) ?_ ?_
            · simp only [up_app, Nat.reduceEqDiff, false_and, and_false, true_and, and_true, if_true, if_false, Nat.add_left_cancel_iff, Nat.add_right_cancel_iff, Nat.add_eq_left, Nat.left_eq_add]; omega
            · refine ⟨fun c hc => ?_, fun f hf => ?_⟩
              · rw [up_row _ (by omega), up_row _ (by omega), up_row _ (by omega), up_row _ (by omega), up_row _ (by omega), up_row _ (by omega), up_row _ (by omega), up_row _ (by omega)]
              · simp only [up_app, Nat.reduceEqDiff, false_and, and_false, true_and, and_true, if_true, if_false, Nat.add_left_cancel_iff, Nat.add_right_cancel_iff, Nat.add_eq_left, Nat.left_eq_add, hf]
            · refine ⟨fun c hc hc2 => ?_, fun f hf => ?_⟩
              · rw [up_row _ (by omega), up_row _ (by omega), up_row _ (by omega), up_row _ (by omega), up_row _ (by omega)]
              · simp only [up_app, Nat.reduceEqDiff, false_and, and_false, true_and, and_true, if_true, if_false, Nat.add_left_cancel_iff, Nat.add_right_cancel_iff, Nat.add_eq_left, Nat.left_eq_add, hf]
    rcases hf with rfl | rfl
    · simp (disch := (first | assumption | omega | (simp only [up_app, Nat.reduceEqDiff, false_and, and_false, true_and, and_true, if_true, if_false, Nat.add_left_cancel_iff, Nat.add_right_cancel_iff, Nat.add_eq_left, Nat.left_eq_add, tn0, tn1, tn2, tn3, tn4, tn5, tn6, tn7, tn8, tn9]; omega))) only [b146_0, b146_7, b146_10, b146_16, b402_0, b402_7, hf', vWC_n, vWC_s, vWC_x, if01a, if01b, if_pos, if_neg, tn0, tn1, tn2, tn3, tn4, tn5, tn6, tn7, tn8, tn9, w32_id, w64_id, Nat.reduceAdd, reduceIte, Int.reduceLT, Int.reduceLE, Int.reduceEq, Int.reduceNe, Int.reduceAdd, Int.reduceSub, Int.reduceMul, Int.reduceNeg, Int.reduceToNat, ne_eq, not_true_eq_false, not_false_eq_true, true_and, and_true, false_and, and_false, true_or, or_true, false_or, or_false, if_true, if_false, and_self, or_self, ite_self]
      exact key _ _
    · simp (disch := (first | assumption | omega | (simp only [up_app, Nat.reduceEqDiff, false_and, and_false, true_and, and_true, if_true, if_false, Nat.add_left_cancel_iff, Nat.add_right_cancel_iff, Nat.add_eq_left, Nat.left_eq_add, tn0, tn1, tn2, tn3, tn4, tn5, tn6, tn7, tn8, tn9]; omega))) only [b146_0, b146_7, b402_0, b402_7, b402_15, hf', vWC_n, vWC_s, vWC_x, if01a, if01b, if_pos, if_neg, tn0, tn1, tn2, tn3, tn4, tn5, tn6, tn7, tn8, tn9, w32_id, w64_id, Nat.reduceAdd, reduceIte, Int.reduceLT, Int.reduceLE, Int.reduceEq, Int.reduceNe, Int.reduceAdd, Int.reduceSub, Int.reduceMul, Int.reduceNeg, Int.reduceToNat, ne_eq, not_true_eq_false, not_false_eq_true, true_and, and_true, false_and, and_false, true_or, or_true, false_or, or_false, if_true, if_false, and_self, or_self, ite_self]
      exact t_up hL hL' hn2 hn1 (fun i hi => ⟨(r3 i hi).1, (r3 i hi).2.1⟩) r4 hm (fun j j1 j2 => hQ I I' n1 j hR0 hn (Nat.le_refl _) j2 (by omega) (tF_refl I) (tF'_refl I')) (fun x x' => key _ _) p hp
