/-! ===== keepers ===== -/
/-- the arrays of a keeper, in both houses -/
def kA (I I' : vJ) (a k : Nat) : Prop := ∀ j, j < 8 → I (a + 1) j = I' 2272 (8 * k + j) ∧ I (a + 2) j = I' 2276 (8 * k + j) ∧ inI (I (a + 1) j)
def kF (I J : vJ) (a : Nat) : Prop := ∀ c, c ≠ a + 1 → c ≠ a + 2 → J c = I c
def kF' (I J : vJ) (k : Nat) : Prop := (∀ c, c ≠ 2272 → c ≠ 2276 → J c = I c) ∧ ∀ j, (j < 8 * k ∨ 8 * k + 8 ≤ j) → J 2272 j = I 2272 j ∧ J 2276 j = I 2276 j
set_option maxHeartbeats 4000000
theorem k_lose {d d' a k : Nat} {Y Y' : vY} {v : Int} {I0 I0' : vJ} {Q : vE → vE → Prop} (ha : vreg Y 2048 3 a) (hL : vL Y') (hk : k < 4)
    (hQ : ∀ J J' (n : Nat), n ≤ 8 → kA J J' a k → kF I0 J a → kF' I0' J' k → Q (.inl none, (up J a 3587 n, Y)) (.inl none, (up J' 2269 k n, Y'))) :
    ∀ (m i n : Nat) (I I' : vJ) (l6 : vV), i + m = 8 → n ≤ i → I a 3587 = 8 → kA I I' a k → kF I0 I a → kF' I0' I' k →
    vW d 201 (14, [vr a, vi n, vi i], [], (I, Y)) (fun r => vW d' 445 (207, [vr 2075, vi k, vl v, vu, vi n, vi i, l6], [], (I', Y')) (fun r' => Q r r')) := by
  intro m
  induction m with
  | zero =>
    intro i n I I' l6 h1 h2 h3 h4 h5 h6
    simp (disch := (first | assumption | omega | (simp only [up_app, Nat.reduceEqDiff, false_and, and_false, true_and, and_true, if_true, if_false, Nat.add_left_cancel_iff, Nat.add_right_cancel_iff, Nat.add_eq_left, Nat.left_eq_add, tn0, tn1, tn2, tn3, tn4, tn5, tn6, tn7, tn8, tn9]; omega))) only [b201_14, b201_70, b201_75, b445_207, b445_285, h3, vWC_n, vWC_s, vWC_x, if01a, if01b, if_pos, if_neg, tn0, tn1, tn2, tn3, tn4, tn5, tn6, tn7, tn8, tn9, w32_id, w64_id, Nat.reduceAdd, reduceIte, Int.reduceLT, Int.reduceLE, Int.reduceEq, Int.reduceNe, Int.reduceAdd, Int.reduceSub, Int.reduceMul, Int.reduceNeg, Int.reduceToNat, ne_eq, not_true_eq_false, not_false_eq_true, true_and, and_true, false_and, and_false, true_or, or_true, false_or, or_false, if_true, if_false, and_self, or_self, ite_self]
    exact hQ I I' n (by omega) h4 h5 h6
  | succ m ih =>
    intro i n I I' l6 h1 h2 h3 h4 h5 h6
    have e := h4 i (by omega)
    simp (disch := (first | assumption | omega | (simp only [up_app, Nat.reduceEqDiff, false_and, and_false, true_and, and_true, if_true, if_false, Nat.add_left_cancel_iff, Nat.add_right_cancel_iff, Nat.add_eq_left, Nat.left_eq_add, tn0, tn1, tn2, tn3, tn4, tn5, tn6, tn7, tn8, tn9]; omega))) only [b201_14, b201_22, b445_207, b445_214, h3, e.2.1, w32_dec, vWC_n, vWC_s, vWC_x, if01a, if01b, if_pos, if_neg, tn0, tn1, tn2, tn3, tn4, tn5, tn6, tn7, tn8, tn9, w32_id, w64_id, Nat.reduceAdd, reduceIte, Int.reduceLT, Int.reduceLE, Int.reduceEq, Int.reduceNe, Int.reduceAdd, Int.reduceSub, Int.reduceMul, Int.reduceNeg, Int.reduceToNat, ne_eq, not_true_eq_false, not_false_eq_true, true_and, and_true, false_and, and_false, true_or, or_true, false_or, or_false, if_true, if_false, and_self, or_self, ite_self]
    by_cases hc : w32 (I' 2276 (8 * k + i) - 1) = 0
    · simp (disch := (first | assumption | omega | (simp only [up_app, Nat.reduceEqDiff, false_and, and_false, true_and, and_true, if_true, if_false, Nat.add_left_cancel_iff, Nat.add_right_cancel_iff, Nat.add_eq_left, Nat.left_eq_add, tn0, tn1, tn2, tn3, tn4, tn5, tn6, tn7, tn8, tn9]; omega))) only [hc, b201_0, b201_10, b201_22, b201_32, b201_35, b201_47, b201_61, b201_64, b201_70, b201_75, b445_0, b445_14, b445_18, b445_28, b445_29, b445_43, b445_47, b445_57, b445_81, b445_92, b445_109, b445_112, b445_129, b445_135, b445_146, b445_191, b445_214, b445_230, b445_235, b445_238, b445_279, b445_285, cst1, vWC_n, vWC_s, vWC_x, if01a, if01b, if_pos, if_neg, tn0, tn1, tn2, tn3, tn4, tn5, tn6, tn7, tn8, tn9, w32_id, w64_id, Nat.reduceAdd, reduceIte, Int.reduceLT, Int.reduceLE, Int.reduceEq, Int.reduceNe, Int.reduceAdd, Int.reduceSub, Int.reduceMul, Int.reduceNeg, Int.reduceToNat, ne_eq, not_true_eq_false, not_false_eq_true, true_and, and_true, false_and, and_false, true_or, or_true, false_or, or_false, if_true, if_false, and_self, or_self, ite_self]
      exact ih (i + 1) n I I' _ (by omega) (by omega) h3 h4 h5 h6
    · simp (disch := (first | assumption | omega | (simp only [up_app, Nat.reduceEqDiff, false_and, and_false, true_and, and_true, if_true, if_false, Nat.add_left_cancel_iff, Nat.add_right_cancel_iff, Nat.add_eq_left, Nat.left_eq_add, tn0, tn1, tn2, tn3, tn4, tn5, tn6, tn7, tn8, tn9]; omega))) only [hc, b201_0, b201_10, b201_22, b201_32, b201_35, b201_47, b201_61, b201_64, b201_70, b201_75, b445_0, b445_14, b445_18, b445_28, b445_29, b445_43, b445_47, b445_57, b445_81, b445_92, b445_109, b445_112, b445_129, b445_135, b445_146, b445_191, b445_214, b445_230, b445_235, b445_238, b445_279, b445_285, up_app, Nat.reduceEqDiff, false_and, and_false, true_and, and_true, if_true, if_false, Nat.add_left_cancel_iff, Nat.add_right_cancel_iff, Nat.add_eq_left, Nat.left_eq_add, cst1, vWC_n, vWC_s, vWC_x, if01a, if01b, if_pos, if_neg, tn0, tn1, tn2, tn3, tn4, tn5, tn6, tn7, tn8, tn9, w32_id, w64_id, Nat.reduceAdd, reduceIte, Int.reduceLT, Int.reduceLE, Int.reduceEq, Int.reduceNe, Int.reduceAdd, Int.reduceSub, Int.reduceMul, Int.reduceNeg, Int.reduceToNat, ne_eq, not_true_eq_false, not_false_eq_true, true_and, and_true, false_and, and_false, true_or, or_true, false_or, or_false, if_true, if_false, and_self, or_self, ite_self]
      refine ih (i + 1) (n + 1) _ _ _ (by omega) (by omega) ?_ ?_ ?_ ?_
      · simp only [up_app, Nat.reduceEqDiff, false_and, and_false, true_and, and_true, if_true, if_false, Nat.add_left_cancel_iff, Nat.add_right_cancel_iff, Nat.add_eq_left, Nat.left_eq_add]; exact h3
      · intro j hj
        have e1 := h4 j hj
        simp only [up_app, Nat.reduceEqDiff, false_and, and_false, true_and, and_true, if_true, if_false, Nat.add_left_cancel_iff, Nat.add_right_cancel_iff, Nat.add_eq_left, Nat.left_eq_add]
        by_cases hj : j = n
        · simp only [hj, if_true]; exact ⟨e.1, by rw [e.2.1], e.2.2⟩
        · simp only [hj, if_false]; exact e1
      · intro c c1 c2
        rw [up_row _ c2, up_row _ c1]; exact h5 c c1 c2
      · refine ⟨fun c c1 c2 => ?_, fun j hj => ?_⟩
        · rw [up_row _ c2, up_row _ c1]; exact h6.1 c c1 c2
        · have q : ¬ j = 8 * k + n := by omega
          simp only [up_app, Nat.reduceEqDiff, false_and, and_false, true_and, and_true, if_true, if_false, Nat.add_left_cancel_iff, Nat.add_right_cancel_iff, Nat.add_eq_left, Nat.left_eq_add, q]; exact h6.2 j hj
/-- a keeper in both houses -/
def kR (I I' : vJ) (a k : Nat) : Prop := (I a 3587 = I' 2269 k ∧ 0 ≤ I a 3587 ∧ I a 3587 ≤ 8) ∧ kA I I' a k ∧ I a 3588 = I' 2270 k ∧ I a 3589 = I' 2271 k ∧ (I a 3590 = I' 2273 k ∧ inI (I a 3590)) ∧ (I a 3591 = I' 2274 k ∧ inI (I a 3591)) ∧ I a 3592 = I' 2275 k ∧ (I a 3584 = -1 ∧ I' 2267 k = -1 ∨ I a 3584 = I' 2268 k ∧ 0 ≤ I' 2267 k ∧ inI (I' 2267 k) ∧ inI (I' 2268 k))
/-- the loop that looks for a value -/
theorem k_find {d d' a k : Nat} {Y Y' : vY} {v : Int} {Q : vE → vE → Prop} {I I' : vJ} (ha : vreg Y 2048 3 a) (hL : vL Y') (hk : k < 4) (hv : inI v) (hA : kA I I' a k) {n : Nat} (hn : n ≤ 8) (h1 : I a 3587 = n) (h2 : I' 2269 k = n)
    (hQ1 : ∀ i, i < n → Q (.inl none, (up I (a + 2) i (I (a + 2) i + 1), Y)) (.inl none, (up I' 2276 (8 * k + i) (I' 2276 (8 * k + i) + 1), Y')))
    (hQ2 : vW d 200 (93, [vr a, vi v, vi n], [], (I, Y)) (fun r => vW d' 445 (135, [vr 2075, vi k, vl v, vu, vi n, vu, vu], [], (I', Y')) (fun r' => Q r r'))) :
    ∀ (m i : Nat), i + m = n → vW d 200 (69, [vr a, vi v, vi i], [], (I, Y)) (fun r => vW d' 445 (81, [vr 2075, vi k, vl v, vu, vi i, vu, vu], [], (I', Y')) (fun r' => Q r r')) := by
  intro m
  obtain ⟨v1, v2⟩ := hv
  induction m with
  | zero =>
    intro i hi
    have hi : i = n := by omega
    subst hi
    simp (disch := (first | assumption | omega | (simp only [up_app, Nat.reduceEqDiff, false_and, and_false, true_and, and_true, if_true, if_false, Nat.add_left_cancel_iff, Nat.add_right_cancel_iff, Nat.add_eq_left, Nat.left_eq_add, tn0, tn1, tn2, tn3, tn4, tn5, tn6, tn7, tn8, tn9]; omega))) only [b200_69, b445_81, h1, h2, vWC_n, vWC_s, vWC_x, if01a, if01b, if_pos, if_neg, tn0, tn1, tn2, tn3, tn4, tn5, tn6, tn7, tn8, tn9, w32_id, w64_id, Nat.reduceAdd, reduceIte, Int.reduceLT, Int.reduceLE, Int.reduceEq, Int.reduceNe, Int.reduceAdd, Int.reduceSub, Int.reduceMul, Int.reduceNeg, Int.reduceToNat, ne_eq, not_true_eq_false, not_false_eq_true, true_and, and_true, false_and, and_false, true_or, or_true, false_or, or_false, if_true, if_false, and_self, or_self, ite_self]
    exact hQ2
  | succ m ih =>
    intro i hi
    obtain ⟨e1, e2, e3, e4⟩ := hA i (by omega)
    simp (disch := (first | assumption | omega | (simp only [up_app, Nat.reduceEqDiff, false_and, and_false, true_and, and_true, if_true, if_false, Nat.add_left_cancel_iff, Nat.add_right_cancel_iff, Nat.add_eq_left, Nat.left_eq_add, tn0, tn1, tn2, tn3, tn4, tn5, tn6, tn7, tn8, tn9]; omega))) only [b200_69, b200_77, b445_81, b445_92, h1, h2, vWC_n, vWC_s, vWC_x, if01a, if01b, if_pos, if_neg, tn0, tn1, tn2, tn3, tn4, tn5, tn6, tn7, tn8, tn9, w32_id, w64_id, Nat.reduceAdd, reduceIte, Int.reduceLT, Int.reduceLE, Int.reduceEq, Int.reduceNe, Int.reduceAdd, Int.reduceSub, Int.reduceMul, Int.reduceNeg, Int.reduceToNat, ne_eq, not_true_eq_false, not_false_eq_true, true_and, and_true, false_and, and_false, true_or, or_true, false_or, or_false, if_true, if_false, and_self, or_self, ite_self]
    by_cases hc : I (a + 1) i = v
    · simp (disch := (first | assumption | omega | (simp only [up_app, Nat.reduceEqDiff, false_and, and_false, true_and, and_true, if_true, if_false, Nat.add_left_cancel_iff, Nat.add_right_cancel_iff, Nat.add_eq_left, Nat.left_eq_add, tn0, tn1, tn2, tn3, tn4, tn5, tn6, tn7, tn8, tn9]; omega))) only [hc, b200_0, b200_8, b200_12, b200_20, b200_23, b200_31, b200_35, b200_43, b200_46, b200_56, b200_67, b200_77, b200_87, b200_93, b200_101, b200_111, b200_114, b200_123, b200_133, b200_143, b200_153, b200_156, b200_160, b445_0, b445_14, b445_18, b445_28, b445_29, b445_43, b445_47, b445_57, b445_92, b445_109, b445_112, b445_129, b445_135, b445_146, b445_191, b445_214, b445_230, b445_235, b445_238, b445_279, b445_285, h1, h2, vWC_n, vWC_s, vWC_x, if01a, if01b, if_pos, if_neg, tn0, tn1, tn2, tn3, tn4, tn5, tn6, tn7, tn8, tn9, w32_id, w64_id, Nat.reduceAdd, reduceIte, Int.reduceLT, Int.reduceLE, Int.reduceEq, Int.reduceNe, Int.reduceAdd, Int.reduceSub, Int.reduceMul, Int.reduceNeg, Int.reduceToNat, ne_eq, not_true_eq_false, not_false_eq_true, true_and, and_true, false_and, and_false, true_or, or_true, false_or, or_false, if_true, if_false, and_self, or_self, ite_self]
      exact hQ1 i (by omega)
    · simp (disch := (first | assumption | omega | (simp only [up_app, Nat.reduceEqDiff, false_and, and_false, true_and, and_true, if_true, if_false, Nat.add_left_cancel_iff, Nat.add_right_cancel_iff, Nat.add_eq_left, Nat.left_eq_add, tn0, tn1, tn2, tn3, tn4, tn5, tn6, tn7, tn8, tn9]; omega))) only [hc, b200_0, b200_8, b200_12, b200_20, b200_23, b200_31, b200_35, b200_43, b200_46, b200_56, b200_67, b200_77, b200_87, b200_93, b200_101, b200_111, b200_114, b200_123, b200_133, b200_143, b200_153, b200_156, b200_160, b445_0, b445_14, b445_18, b445_28, b445_29, b445_43, b445_47, b445_57, b445_92, b445_109, b445_112, b445_129, b445_135, b445_146, b445_191, b445_214, b445_230, b445_235, b445_238, b445_279, b445_285, cst1, vWC_n, vWC_s, vWC_x, if01a, if01b, if_pos, if_neg, tn0, tn1, tn2, tn3, tn4, tn5, tn6, tn7, tn8, tn9, w32_id, w64_id, Nat.reduceAdd, reduceIte, Int.reduceLT, Int.reduceLE, Int.reduceEq, Int.reduceNe, Int.reduceAdd, Int.reduceSub, Int.reduceMul, Int.reduceNeg, Int.reduceToNat, ne_eq, not_true_eq_false, not_false_eq_true, true_and, and_true, false_and, and_false, true_or, or_true, false_or, or_false, if_true, if_false, and_self, or_self, ite_self]
      exact ih (i + 1) (by omega)

/-- what a keeper's look leaves as it was in the model -/
def kG (I J : vJ) (k : Nat) : Prop := (∀ c, c < 2269 ∨ 2276 < c → J c = I c) ∧ ∀ q, q ≠ k → J 2269 q = I 2269 q ∧ J 2270 q = I 2270 q ∧ J 2271 q = I 2271 q ∧ J 2273 q = I 2273 q ∧ J 2274 q = I 2274 q ∧ J 2275 q = I 2275 q ∧ ∀ j, j < 8 → J 2272 (8 * q + j) = I 2272 (8 * q + j) ∧ J 2276 (8 * q + j) = I 2276 (8 * q + j)
def kH (I J : vJ) (a : Nat) : Prop := ∀ c, c ≠ a → c ≠ a + 1 → c ≠ a + 2 → J c = I c
theorem kA1 {I I' : vJ} {a k : Nat} (h : kA I I' a k) {i : Nat} (hi : i < 8) {x : Int} (hx : inI x) : kA (up I (a + 1) i x) (up I' 2272 (8 * k + i) x) a k := by
  intro j hj
  have e := h j hj
  simp only [up_app, Nat.reduceEqDiff, false_and, and_false, true_and, and_true, if_true, if_false, Nat.add_left_cancel_iff, Nat.add_right_cancel_iff, Nat.add_eq_left, Nat.left_eq_add]
  by_cases q : j = i
  · simp only [q, if_true]; rw [q] at e; exact ⟨trivial, e.2.1, hx⟩
  · simp only [q, if_false]; exact e
theorem kA2 {I I' : vJ} {a k : Nat} (h : kA I I' a k) {i : Nat} (hi : i < 8) (x : Int) : kA (up I (a + 2) i x) (up I' 2276 (8 * k + i) x) a k := by
  intro j hj
  have e := h j hj
  simp only [up_app, Nat.reduceEqDiff, false_and, and_false, true_and, and_true, if_true, if_false, Nat.add_left_cancel_iff, Nat.add_right_cancel_iff, Nat.add_eq_left, Nat.left_eq_add]
  by_cases q : j = i
  · simp only [q, if_true]; rw [q] at e; exact ⟨e.1, trivial, e.2.2⟩
  · simp only [q, if_false]; exact e
theorem kA3 {I I' J J' : vJ} {a k : Nat} (h : kA I I' a k) (h1 : J (a + 1) = I (a + 1)) (h2 : J (a + 2) = I (a + 2)) (h3 : J' 2272 = I' 2272) (h4 : J' 2276 = I' 2276) : kA J J' a k := by
  intro j hj; rw [h1, h2, h3, h4]; exact h j hj
theorem kH1 {I0 I : vJ} {a c : Nat} (h : kH I0 I a) (hc : c = a ∨ c = a + 1 ∨ c = a + 2) (j : Nat) (x : Int) : kH I0 (up I c j x) a := by
  intro b b0 b1 b2
  rw [up_row I (by omega)]; exact h b b0 b1 b2
theorem kG1 {I0 I : vJ} {k c j : Nat} (h : kG I0 I k) (hc : 2269 ≤ c ∧ c ≤ 2276) (hj : (c = 2272 ∨ c = 2276) ∧ 8 * k ≤ j ∧ j < 8 * k + 8 ∨ (c ≠ 2272 ∧ c ≠ 2276) ∧ j = k) (x : Int) : kG I0 (up I c j x) k := by
  refine ⟨fun b hb => ?_, fun q hq => ?_⟩
  · rw [up_row I (by omega)]; exact h.1 b hb
  · have e := h.2 q hq
    have g : ∀ b, (b = 2269 ∨ b = 2270 ∨ b = 2271 ∨ b = 2273 ∨ b = 2274 ∨ b = 2275) → up I c j x b q = I b q := fun b hb => if_neg (by omega)
    have g2 : ∀ b m, b = 2272 ∨ b = 2276 → m < 8 → up I c j x b (8 * q + m) = I b (8 * q + m) := fun b m hb hm => if_neg (by omega)
    rw [g _ (by decide), g _ (by decide), g _ (by decide), g _ (by decide), g _ (by decide), g _ (by decide)]
    refine ⟨e.1, e.2.1, e.2.2.1, e.2.2.2.1, e.2.2.2.2.1, e.2.2.2.2.2.1, fun m hm => ?_⟩
    rw [g2 _ _ (Or.inl rfl) hm, g2 _ _ (Or.inr rfl) hm]; exact e.2.2.2.2.2.2 m hm
theorem k_after {d d' a k : Nat} {Y Y' : vY} {v : Int} {Q : vE → vE → Prop} {I0 I0' I I' : vJ} (ha : vreg Y 2048 3 a) (hL : vL Y') (hk : k < 4) (hv : inI v) (hR : kR I I' a k) (hH : kH I0 I a) (hG : kG I0' I' k)
    (hQ : ∀ J J', kR J J' a k → kH I0 J a → kG I0' J' k → Q (.inl none, (J, Y)) (.inl none, (J', Y'))) :
    vW (d + 1) 200 (69, [vr a, vi v, vi 0], [], (I, Y)) (fun r => vW d' 445 (81, [vr 2075, vi k, vl v, vu, vi 0, vu, vu], [], (I', Y')) (fun r' => Q r r')) := by
  obtain ⟨⟨r1, r2, r3⟩, r4, r5, r6, r7, r8, r9, r10⟩ := hR
  obtain ⟨n, hn⟩ : ∃ n : Nat, I a 3587 = n := ⟨(I a 3587).toNat, by omega⟩
  have hn' : I' 2269 k = n := by omega
  have hv1 := hv.1
  have hv2 := hv.2
  refine k_find ha hL hk hv r4 (by omega) hn hn' ?_ ?_ n 0 (by omega)
  · intro i hi
    refine hQ _ _ ?_ (kH1 hH (by omega) _ _) (kG1 hG (by omega) (by omega) _)
    have e := (r4 i (by omega)).2.1
    unfold kR
    rw [e]
    refine ⟨?_, kA2 r4 (by omega) _, ?_⟩
    · simp only [up_app, Nat.reduceEqDiff, false_and, and_false, true_and, and_true, if_true, if_false, Nat.add_left_cancel_iff, Nat.add_right_cancel_iff, Nat.add_eq_left, Nat.left_eq_add]; exact ⟨r1, r2, r3⟩
    · simp only [up_app, Nat.reduceEqDiff, false_and, and_false, true_and, and_true, if_true, if_false, Nat.add_left_cancel_iff, Nat.add_right_cancel_iff, Nat.add_eq_left, Nat.left_eq_add]; exact ⟨r5, r6, r7, r8, r9, r10⟩
  · by_cases h8 : n = 8
    · have hn : I a 3587 = 8 := by omega
      have hn' : I' 2269 k = 8 := by omega
      simp (disch := (first | assumption | omega | (simp only [up_app, Nat.reduceEqDiff, false_and, and_false, true_and, and_true, if_true, if_false, Nat.add_left_cancel_iff, Nat.add_right_cancel_iff, Nat.add_eq_left, Nat.left_eq_add, tn0, tn1, tn2, tn3, tn4, tn5, tn6, tn7, tn8, tn9]; omega))) only [b200_93, b200_114, b200_156, b445_135, b445_191, hn, hn', vWC_n, vWC_s, vWC_x, if01a, if01b, if_pos, if_neg, tn0, tn1, tn2, tn3, tn4, tn5, tn6, tn7, tn8, tn9, w32_id, w64_id, Nat.reduceAdd, reduceIte, Int.reduceLT, Int.reduceLE, Int.reduceEq, Int.reduceNe, Int.reduceAdd, Int.reduceSub, Int.reduceMul, Int.reduceNeg, Int.reduceToNat, ne_eq, not_true_eq_false, not_false_eq_true, true_and, and_true, false_and, and_false, true_or, or_true, false_or, or_false, if_true, if_false, and_self, or_self, ite_self]
      apply vW_out
      simp (disch := (first | assumption | omega | (simp only [up_app, Nat.reduceEqDiff, false_and, and_false, true_and, and_true, if_true, if_false, Nat.add_left_cancel_iff, Nat.add_right_cancel_iff, Nat.add_eq_left, Nat.left_eq_add, tn0, tn1, tn2, tn3, tn4, tn5, tn6, tn7, tn8, tn9]; omega))) only [b201_0, b201_10, vWC_n, vWC_s, vWC_x, if01a, if01b, if_pos, if_neg, tn0, tn1, tn2, tn3, tn4, tn5, tn6, tn7, tn8, tn9, w32_id, w64_id, Nat.reduceAdd, reduceIte, Int.reduceLT, Int.reduceLE, Int.reduceEq, Int.reduceNe, Int.reduceAdd, Int.reduceSub, Int.reduceMul, Int.reduceNeg, Int.reduceToNat, ne_eq, not_true_eq_false, not_false_eq_true, true_and, and_true, false_and, and_false, true_or, or_true, false_or, or_false, if_true, if_false, and_self, or_self, ite_self]
      refine k_lose (I0 := up I a 3589 (I a 3589 + 1)) (I0' := up I' 2271 k (I' 2271 k + 1)) ha hL hk ?_ 8 0 0 _ _ _ rfl (Nat.le_refl _) ?_ ?_ ?_ ?_
      · intro J J' n' hn' hA hF hF'
        simp only [vWC_n, Nat.reduceAdd, b200_160]
        have f0 : J a = up I a 3589 (I a 3589 + 1) a := hF a (by omega) (by omega)
        have g0 : ∀ c, c ≠ 2272 → c ≠ 2276 → J' c = up I' 2271 k (I' 2271 k + 1) c := hF'.1
        refine hQ _ _ ?_ ?_ ?_
        · unfold kR
          refine ⟨?_, kA3 hA (up_row _ (by omega) _ _) (up_row _ (by omega) _ _) (up_row _ (by decide) _ _) (up_row _ (by decide) _ _), ?_⟩
          · simp only [up_app, Nat.reduceEqDiff, false_and, and_false, true_and, and_true, if_true, if_false, Nat.add_left_cancel_iff, Nat.add_right_cancel_iff, Nat.add_eq_left, Nat.left_eq_add]; omega
          · simp only [up_app, Nat.reduceEqDiff, false_and, and_false, true_and, and_true, if_true, if_false, Nat.add_left_cancel_iff, Nat.add_right_cancel_iff, Nat.add_eq_left, Nat.left_eq_add, f0, g0 2270 (by decide) (by decide), g0 2271 (by decide) (by decide), g0 2273 (by decide) (by decide), g0 2274 (by decide) (by decide), g0 2275 (by decide) (by decide), g0 2267 (by decide) (by decide), g0 2268 (by decide) (by decide)]
            exact ⟨r5, by rw [r6], r7, r8, r9, r10⟩
        · intro b b0 b1 b2
          rw [up_row _ b0, hF b b1 b2, up_row _ b0]; exact hH b b0 b1 b2
        · have hG2 := kG1 (c := 2271) (j := k) hG (by omega) (by omega) (I' 2271 k + 1)
          refine kG1 (c := 2269) ⟨fun b hb => ?_, fun q hq => ?_⟩ (by omega) (by omega) _
          · rw [g0 b (by omega) (by omega)]; exact hG2.1 b hb
          · have e := hG2.2 q hq
            rw [g0 2269 (by decide) (by decide), g0 2270 (by decide) (by decide), g0 2271 (by decide) (by decide), g0 2273 (by decide) (by decide), g0 2274 (by decide) (by decide), g0 2275 (by decide) (by decide)]
            refine ⟨e.1, e.2.1, e.2.2.1, e.2.2.2.1, e.2.2.2.2.1, e.2.2.2.2.2.1, fun m hm => ?_⟩
            have q1 := hF'.2 (8 * q + m) (by omega)
            rw [q1.1, q1.2]; exact e.2.2.2.2.2.2 m hm
      · simp only [up_app, Nat.reduceEqDiff, false_and, and_false, true_and, and_true, if_true, if_false, Nat.add_left_cancel_iff, Nat.add_right_cancel_iff, Nat.add_eq_left, Nat.left_eq_add]; exact hn
      · exact kA3 r4 (up_row _ (by omega) _ _) (up_row _ (by omega) _ _) (up_row _ (by decide) _ _) (up_row _ (by decide) _ _)
      · exact fun c _ _ => rfl
      · exact ⟨fun c _ _ => rfl, fun j _ => ⟨rfl, rfl⟩⟩
    · simp (disch := (first | assumption | omega | (simp only [up_app, Nat.reduceEqDiff, false_and, and_false, true_and, and_true, if_true, if_false, Nat.add_left_cancel_iff, Nat.add_right_cancel_iff, Nat.add_eq_left, Nat.left_eq_add, tn0, tn1, tn2, tn3, tn4, tn5, tn6, tn7, tn8, tn9]; omega))) only [b200_0, b200_8, b200_12, b200_20, b200_23, b200_31, b200_35, b200_43, b200_46, b200_56, b200_67, b200_77, b200_87, b200_93, b200_101, b200_111, b200_114, b200_123, b200_133, b200_143, b200_153, b200_156, b200_160, b445_0, b445_14, b445_18, b445_28, b445_29, b445_43, b445_47, b445_57, b445_92, b445_109, b445_112, b445_129, b445_135, b445_146, b445_191, b445_214, b445_230, b445_235, b445_238, b445_279, b445_285, hn, hn', up_app, Nat.reduceEqDiff, false_and, and_false, true_and, and_true, if_true, if_false, Nat.add_left_cancel_iff, Nat.add_right_cancel_iff, Nat.add_eq_left, Nat.left_eq_add, vWC_n, vWC_s, vWC_x, if01a, if01b, if_pos, if_neg, tn0, tn1, tn2, tn3, tn4, tn5, tn6, tn7, tn8, tn9, w32_id, w64_id, Nat.reduceAdd, reduceIte, Int.reduceLT, Int.reduceLE, Int.reduceEq, Int.reduceNe, Int.reduceAdd, Int.reduceSub, Int.reduceMul, Int.reduceNeg, Int.reduceToNat, ne_eq, not_true_eq_false, not_false_eq_true, true_and, and_true, false_and, and_false, true_or, or_true, false_or, or_false, if_true, if_false, and_self, or_self, ite_self]
      refine hQ _ _ ?_ ?_ ?_
      · unfold kR
        refine ⟨?_, ?_, ?_⟩
        · simp only [up_app, Nat.reduceEqDiff, false_and, and_false, true_and, and_true, if_true, if_false, Nat.add_left_cancel_iff, Nat.add_right_cancel_iff, Nat.add_eq_left, Nat.left_eq_add]; omega
        · exact kA3 (kA2 (kA1 r4 (i := n) (by omega) hv) (i := n) (by omega) 1) (up_row _ (by omega) _ _) (up_row _ (by omega) _ _) (up_row _ (by decide) _ _) (up_row _ (by decide) _ _)
        · simp only [up_app, Nat.reduceEqDiff, false_and, and_false, true_and, and_true, if_true, if_false, Nat.add_left_cancel_iff, Nat.add_right_cancel_iff, Nat.add_eq_left, Nat.left_eq_add]; exact ⟨r5, r6, r7, r8, r9, r10⟩
      · exact kH1 (kH1 (kH1 hH (by omega) _ _) (by omega) _ _) (by omega) _ _
      · exact kG1 (kG1 (kG1 hG (by omega) (by omega) _) (by omega) (by omega) _) (by omega) (by omega) _
theorem k_sees {d d' a k : Nat} {Y Y' : vY} {v : Int} {Q : vE → vE → Prop} {I I' : vJ} (ha : vreg Y 2048 3 a) (hL : vL Y') (hk : k < 4) (hv : inI v) (hR : kR I I' a k)
    (hQ : ∀ J J', kR J J' a k → kH I J a → kG I' J' k → Q (.inl none, (J, Y)) (.inl none, (J', Y'))) :
    vW (d + 2) 200 (0, [vr a, vi v, vu], [], (I, Y)) (fun r => vW (d' + 2) 445 (0, [vr 2075, vi k, vl v, vu, vu, vu, vu], [], (I', Y')) (fun r' => Q r r')) := by
  have hR0 := hR
  obtain ⟨⟨r1, r2, r3⟩, r4, r5, r6, ⟨r7, r8, r9⟩, ⟨r10, r11, r12⟩, r13, r14⟩ := hR
  have hv1 := hv.1
  have hv2 := hv.2
  have key : ∀ l g : Int, inI l → inI g → vW (d + 2) 200 (69, [vr a, vi v, vi 0], [], (up (up (up (up I a 3590 l) a 3591 g) a 3588 (I' 2270 k + 1)) a 3592 (I a 3592 + v), Y)) (fun r => vW (d' + 2) 445 (81, [vr 2075, vi k, vl v, vu, vi 0, vu, vu], [], (up (up (up (up I' 2273 k l) 2274 k g) 2270 k (I' 2270 k + 1)) 2275 k (I' 2275 k + v), Y')) (fun r' => Q r r')) := by
    intro l g hl hg
    refine k_after ha hL hk hv ?_ ?_ ?_ hQ
    · unfold kR
      refine ⟨?_, ?_, ?_⟩
      · simp only [up_app, Nat.reduceEqDiff, false_and, and_false, true_and, and_true, if_true, if_false, Nat.add_left_cancel_iff, Nat.add_right_cancel_iff, Nat.add_eq_left, Nat.left_eq_add]; exact ⟨r1, r2, r3⟩
      · refine kA3 r4 ?_ ?_ ?_ ?_
        · rw [up_row _ (by omega), up_row _ (by omega), up_row _ (by omega), up_row _ (by omega)]
        · rw [up_row _ (by omega), up_row _ (by omega), up_row _ (by omega), up_row _ (by omega)]
        · rw [up_row _ (by omega), up_row _ (by omega), up_row _ (by omega), up_row _ (by omega)]
        · rw [up_row _ (by omega), up_row _ (by omega), up_row _ (by omega), up_row _ (by omega)]
      · simp only [up_app, Nat.reduceEqDiff, false_and, and_false, true_and, and_true, if_true, if_false, Nat.add_left_cancel_iff, Nat.add_right_cancel_iff, Nat.add_eq_left, Nat.left_eq_add]; exact ⟨r6, hl, hg, by omega, r14⟩
    · exact kH1 (kH1 (kH1 (kH1 (fun _ _ _ _ => rfl) (Or.inl rfl) _ _) (Or.inl rfl) _ _) (Or.inl rfl) _ _) (Or.inl rfl) _ _
    · exact kG1 (kG1 (kG1 (kG1 ⟨fun _ _ => rfl, fun _ _ => ⟨rfl, rfl, rfl, rfl, rfl, rfl, fun _ _ => ⟨rfl, rfl⟩⟩⟩ (by omega) (by omega) _) (by omega) (by omega) _) (by omega) (by omega) _) (by omega) (by omega) _
  simp (disch := (first | assumption | omega | (simp only [up_app, Nat.reduceEqDiff, false_and, and_false, true_and, and_true, if_true, if_false, Nat.add_left_cancel_iff, Nat.add_right_cancel_iff, Nat.add_eq_left, Nat.left_eq_add, tn0, tn1, tn2, tn3, tn4, tn5, tn6, tn7, tn8, tn9]; omega))) only [b200_0, b200_8, b200_12, b200_20, b200_23, b200_31, b200_35, b200_43, b200_46, b200_56, b200_67, b200_77, b200_87, b200_93, b200_101, b200_111, b200_114, b200_123, b200_133, b200_143, b200_153, b200_156, b200_160, b445_0, b445_14, b445_18, b445_28, b445_29, b445_43, b445_47, b445_57, b445_92, b445_109, b445_112, b445_129, b445_135, b445_146, b445_191, b445_214, b445_230, b445_235, b445_238, b445_279, b445_285, m503_0, b503_5, b503_9, b503_10, m504_0, b504_5, b504_9, b504_10, m505_0, b505_6, b505_10, b505_11, m507_0, b507_6, b507_10, b507_11, r5, up_app, Nat.reduceEqDiff, false_and, and_false, true_and, and_true, if_true, if_false, Nat.add_left_cancel_iff, Nat.add_right_cancel_iff, Nat.add_eq_left, Nat.left_eq_add, vWC_n, vWC_s, vWC_x, if01a, if01b, if_pos, if_neg, tn0, tn1, tn2, tn3, tn4, tn5, tn6, tn7, tn8, tn9, w32_id, w64_id, Nat.reduceAdd, reduceIte, Int.reduceLT, Int.reduceLE, Int.reduceEq, Int.reduceNe, Int.reduceAdd, Int.reduceSub, Int.reduceMul, Int.reduceNeg, Int.reduceToNat, ne_eq, not_true_eq_false, not_false_eq_true, true_and, and_true, false_and, and_false, true_or, or_true, false_or, or_false, if_true, if_false, and_self, or_self, ite_self]
  have i1 : inI (I a 3590) := ⟨r8, r9⟩
  have i2 : inI (I a 3591) := ⟨r11, r12⟩
  simp only [← r7, ← r10]
  split
  · split
    · split
      · exact key _ _ hv hv
      · exact key _ _ hv i2
    · split
      · exact key _ _ i1 hv
      · exact key _ _ i1 i2
  · exact key _ _ hv hv
