/-! ===== loops are left ===== -/
def lst1 (a n : Int) : Int := if a < 0 ∨ n < a then n else a
def grt1 (a n : Int) : Int := if a < n then n else a
def leC (I : vJ) (l : Nat) (n : Int) (h : Nat) : vJ := up (up (up I 1972 l (lst1 (I 1972 l) n)) 1973 l (grt1 (I 1973 l) n)) (1975 + h) l (I (1975 + h) l + 1)
def leT (I : vJ) (v : Nat) (n : Int) (h : Nat) : vJ := up (up (up I (2245 + h) v (I (2245 + h) v + 1)) 2243 v (lst1 (I 2243 v) n)) 2244 v (grt1 (I 2244 v) n)
theorem ends_ref {Y : vY} (hL : vL Y) {h : Nat} (hh : h < 4) : Y.1 1974 h = 1975 + h ∧ Y.2.1 (1975 + h) = 100 ∧ Y.2.2.1 (1975 + h) = 260 := by
  have : h = 0 ∨ h = 1 ∨ h = 2 ∨ h = 3 := by omega
  rcases this with rfl | rfl | rfl | rfl
  · exact ⟨lP hL 1974 0 1975 rfl, lK hL 1975 100 rfl, lLn hL 1975 260 rfl⟩
  · exact ⟨lP hL 1974 1 1976 rfl, lK hL 1976 100 rfl, lLn hL 1976 260 rfl⟩
  · exact ⟨lP hL 1974 2 1977 rfl, lK hL 1977 100 rfl, lLn hL 1977 260 rfl⟩
  · exact ⟨lP hL 1974 3 1978 rfl, lK hL 1978 100 rfl, lLn hL 1978 260 rfl⟩
section
variable {d : Nat} {I : vJ} {Y : vY} {Q : vE → Prop}
theorem c_loopEnds {l h : Nat} {n : Int} (hL : vL Y) (hl : l < 260) (hh : h < 4) (h1 : -1 ≤ I 1972 l ∧ I 1972 l < 100000000) (h2 : -1 ≤ I 1973 l ∧ I 1973 l < 100000000) (hn : 0 ≤ n ∧ n < 100000000) : vW (d + 1) 149 (0, [vr 1960, vi l, vi n, vi h], [], (I, Y)) Q ↔ Q (.inl none, (leC I l n h, Y)) := by
  obtain ⟨e1, e2, e3⟩ := ends_ref hL hh
  have q1 : ¬ (1975 + h = 1973) := by omega
  have q2 : ¬ (1975 + h = 1972) := by omega
  have r45 : ∀ (K : vJ) (s2 : Int), vW (d + 1) 149 (45, [vr 1960, vi l, vi n, vi h], [vi s2, vi l, vr 1973], (K, Y)) Q ↔ Q (.inl none, (up (up K 1973 l s2) (1975 + h) l (K (1975 + h) l + 1), Y)) := by
    intro K s2
    rw [b149_45 hL (by omega) (by omega) (by omega) (by omega) (by omega) (by rw [tn0, e1, e3]; omega) (by omega) (by rw [tn0, e1]; exact e2) (by rw [tn0, e1]; omega)]
    simp only [b149_58, tn0, e1, up_app, Nat.reduceEqDiff, false_and, and_false, true_and, and_true, if_true, if_false, Nat.add_left_cancel_iff, Nat.add_right_cancel_iff, Nat.add_eq_left, Nat.left_eq_add, q1]
  unfold leC lst1 grt1
  by_cases c : I 1972 l = -1
  · by_cases c3 : I 1973 l < n
    · simp (disch := (first | assumption | omega | (simp only [up_app, Nat.reduceEqDiff, false_and, and_false, true_and, and_true, if_true, if_false, Nat.add_left_cancel_iff, Nat.add_right_cancel_iff, Nat.add_eq_left, Nat.left_eq_add, e1, e2, e3, tn0, tn1, tn2, tn3, tn4, tn5, tn6, tn7, tn8, tn9]; omega))) only [b149_0, b149_15, b149_19, b149_29, b149_58, m503_0, b503_5, b503_9, b503_10, m504_0, b504_5, b504_9, b504_10, r45, q1, q2, up_app, Nat.reduceEqDiff, false_and, and_false, true_and, and_true, if_true, if_false, Nat.add_left_cancel_iff, Nat.add_right_cancel_iff, Nat.add_eq_left, Nat.left_eq_add, vWC_n, vWC_s, vWC_x, if01a, if01b, if_pos, if_neg, tn0, tn1, tn2, tn3, tn4, tn5, tn6, tn7, tn8, tn9, w32_id, w64_id, Nat.reduceAdd, reduceIte, Int.reduceLT, Int.reduceLE, Int.reduceEq, Int.reduceNe, Int.reduceAdd, Int.reduceSub, Int.reduceMul, Int.reduceNeg, Int.reduceToNat, ne_eq, not_true_eq_false, not_false_eq_true, true_and, and_true, false_and, and_false, true_or, or_true, false_or, or_false, if_true, if_false, and_self, or_self, ite_self]
    · simp (disch := (first | assumption | omega | (simp only [up_app, Nat.reduceEqDiff, false_and, and_false, true_and, and_true, if_true, if_false, Nat.add_left_cancel_iff, Nat.add_right_cancel_iff, Nat.add_eq_left, Nat.left_eq_add, e1, e2, e3, tn0, tn1, tn2, tn3, tn4, tn5, tn6, tn7, tn8, tn9]; omega))) only [b149_0, b149_15, b149_19, b149_29, b149_58, m503_0, b503_5, b503_9, b503_10, m504_0, b504_5, b504_9, b504_10, r45, q1, q2, up_app, Nat.reduceEqDiff, false_and, and_false, true_and, and_true, if_true, if_false, Nat.add_left_cancel_iff, Nat.add_right_cancel_iff, Nat.add_eq_left, Nat.left_eq_add, vWC_n, vWC_s, vWC_x, if01a, if01b, if_pos, if_neg, tn0, tn1, tn2, tn3, tn4, tn5, tn6, tn7, tn8, tn9, w32_id, w64_id, Nat.reduceAdd, reduceIte, Int.reduceLT, Int.reduceLE, Int.reduceEq, Int.reduceNe, Int.reduceAdd, Int.reduceSub, Int.reduceMul, Int.reduceNeg, Int.reduceToNat, ne_eq, not_true_eq_false, not_false_eq_true, true_and, and_true, false_and, and_false, true_or, or_true, false_or, or_false, if_true, if_false, and_self, or_self, ite_self]
  · by_cases c2 : n < I 1972 l
    · by_cases c3 : I 1973 l < n
      · simp (disch := (first | assumption | omega | (simp only [up_app, Nat.reduceEqDiff, false_and, and_false, true_and, and_true, if_true, if_false, Nat.add_left_cancel_iff, Nat.add_right_cancel_iff, Nat.add_eq_left, Nat.left_eq_add, e1, e2, e3, tn0, tn1, tn2, tn3, tn4, tn5, tn6, tn7, tn8, tn9]; omega))) only [b149_0, b149_15, b149_19, b149_29, b149_58, m503_0, b503_5, b503_9, b503_10, m504_0, b504_5, b504_9, b504_10, r45, q1, q2, up_app, Nat.reduceEqDiff, false_and, and_false, true_and, and_true, if_true, if_false, Nat.add_left_cancel_iff, Nat.add_right_cancel_iff, Nat.add_eq_left, Nat.left_eq_add, vWC_n, vWC_s, vWC_x, if01a, if01b, if_pos, if_neg, tn0, tn1, tn2, tn3, tn4, tn5, tn6, tn7, tn8, tn9, w32_id, w64_id, Nat.reduceAdd, reduceIte, Int.reduceLT, Int.reduceLE, Int.reduceEq, Int.reduceNe, Int.reduceAdd, Int.reduceSub, Int.reduceMul, Int.reduceNeg, Int.reduceToNat, ne_eq, not_true_eq_false, not_false_eq_true, true_and, and_true, false_and, and_false, true_or, or_true, false_or, or_false, if_true, if_false, and_self, or_self, ite_self]
      · simp (disch := (first | assumption | omega | (simp only [up_app, Nat.reduceEqDiff, false_and, and_false, true_and, and_true, if_true, if_false, Nat.add_left_cancel_iff, Nat.add_right_cancel_iff, Nat.add_eq_left, Nat.left_eq_add, e1, e2, e3, tn0, tn1, tn2, tn3, tn4, tn5, tn6, tn7, tn8, tn9]; omega))) only [b149_0, b149_15, b149_19, b149_29, b149_58, m503_0, b503_5, b503_9, b503_10, m504_0, b504_5, b504_9, b504_10, r45, q1, q2, up_app, Nat.reduceEqDiff, false_and, and_false, true_and, and_true, if_true, if_false, Nat.add_left_cancel_iff, Nat.add_right_cancel_iff, Nat.add_eq_left, Nat.left_eq_add, vWC_n, vWC_s, vWC_x, if01a, if01b, if_pos, if_neg, tn0, tn1, tn2, tn3, tn4, tn5, tn6, tn7, tn8, tn9, w32_id, w64_id, Nat.reduceAdd, reduceIte, Int.reduceLT, Int.reduceLE, Int.reduceEq, Int.reduceNe, Int.reduceAdd, Int.reduceSub, Int.reduceMul, Int.reduceNeg, Int.reduceToNat, ne_eq, not_true_eq_false, not_false_eq_true, true_and, and_true, false_and, and_false, true_or, or_true, false_or, or_false, if_true, if_false, and_self, or_self, ite_self]
    · by_cases c3 : I 1973 l < n
      · simp (disch := (first | assumption | omega | (simp only [up_app, Nat.reduceEqDiff, false_and, and_false, true_and, and_true, if_true, if_false, Nat.add_left_cancel_iff, Nat.add_right_cancel_iff, Nat.add_eq_left, Nat.left_eq_add, e1, e2, e3, tn0, tn1, tn2, tn3, tn4, tn5, tn6, tn7, tn8, tn9]; omega))) only [b149_0, b149_15, b149_19, b149_29, b149_58, m503_0, b503_5, b503_9, b503_10, m504_0, b504_5, b504_9, b504_10, r45, q1, q2, up_app, Nat.reduceEqDiff, false_and, and_false, true_and, and_true, if_true, if_false, Nat.add_left_cancel_iff, Nat.add_right_cancel_iff, Nat.add_eq_left, Nat.left_eq_add, vWC_n, vWC_s, vWC_x, if01a, if01b, if_pos, if_neg, tn0, tn1, tn2, tn3, tn4, tn5, tn6, tn7, tn8, tn9, w32_id, w64_id, Nat.reduceAdd, reduceIte, Int.reduceLT, Int.reduceLE, Int.reduceEq, Int.reduceNe, Int.reduceAdd, Int.reduceSub, Int.reduceMul, Int.reduceNeg, Int.reduceToNat, ne_eq, not_true_eq_false, not_false_eq_true, true_and, and_true, false_and, and_false, true_or, or_true, false_or, or_false, if_true, if_false, and_self, or_self, ite_self]
      · simp (disch := (first | assumption | omega | (simp only [up_app, Nat.reduceEqDiff, false_and, and_false, true_and, and_true, if_true, if_false, Nat.add_left_cancel_iff, Nat.add_right_cancel_iff, Nat.add_eq_left, Nat.left_eq_add, e1, e2, e3, tn0, tn1, tn2, tn3, tn4, tn5, tn6, tn7, tn8, tn9]; omega))) only [b149_0, b149_15, b149_19, b149_29, b149_58, m503_0, b503_5, b503_9, b503_10, m504_0, b504_5, b504_9, b504_10, r45, q1, q2, up_app, Nat.reduceEqDiff, false_and, and_false, true_and, and_true, if_true, if_false, Nat.add_left_cancel_iff, Nat.add_right_cancel_iff, Nat.add_eq_left, Nat.left_eq_add, vWC_n, vWC_s, vWC_x, if01a, if01b, if_pos, if_neg, tn0, tn1, tn2, tn3, tn4, tn5, tn6, tn7, tn8, tn9, w32_id, w64_id, Nat.reduceAdd, reduceIte, Int.reduceLT, Int.reduceLE, Int.reduceEq, Int.reduceNe, Int.reduceAdd, Int.reduceSub, Int.reduceMul, Int.reduceNeg, Int.reduceToNat, ne_eq, not_true_eq_false, not_false_eq_true, true_and, and_true, false_and, and_false, true_or, or_true, false_or, or_false, if_true, if_false, and_self, or_self, ite_self]
/-- how a loop is left -/
def hw (so ku : Int) : Nat := if so = 3 then 3 else if ku = 16 then 1 else if ku = 9 then 2 else 0
theorem hw_lt (so ku : Int) : hw so ku < 4 := by unfold hw; split; omega; split; omega; split <;> omega
theorem t_leave {X a v u w : Nat} {n so ku : Int} (hL : vL Y) (hX : Y.1 2075 7689 = X) (hX2 : X = 2081 ∨ X = 2119) (hV : vreg Y 2081 38 (Y.1 2075 7689)) (ha : a < 320) (hv : v < 1400) (hu : u < 1400) (hw1 : w < 3200) (hs : I (X + 24) w = so ∧ 0 ≤ so ∧ so ≤ 3) (hk : I (X + 9) u = ku ∧ 0 ≤ ku ∧ ku ≤ 16) (ht : 0 ≤ I (X + 19) v ∧ I (X + 19) v < 12) (hn : I 2209 (12 * a + (I (X + 19) v).toNat) = n) (h1 : -1 ≤ I 2243 v ∧ I 2243 v < 100000000) (h2 : -1 ≤ I 2244 v ∧ I 2244 v < 100000000) (hn2 : 0 ≤ n ∧ n < 100000000) : vW (d + 1) 405 (0, [vr 2075, vi a, vi v, vi u, vi w, vu], [], (I, Y)) Q ↔ Q (.inl none, (leT I v n (hw so ku), Y)) := by
  obtain ⟨z, hz⟩ : ∃ z : Nat, I (X + 19) v = z := ⟨(I (X + 19) v).toNat, by omega⟩
  rw [hz] at hn
  simp only [tn0] at hn
  have tail : ∀ (K : vJ), (∀ c, c ≠ 2245 → c ≠ 2246 → c ≠ 2247 → c ≠ 2248 → K c = I c) → (vW (d + 1) 405 (91, [vr 2075, vi a, vi v, vi u, vi w, vu], [], (K, Y)) Q ↔ Q (.inl none, (up (up K 2243 v (lst1 (I 2243 v) n)) 2244 v (grt1 (I 2244 v) n), Y))) := by
    intro K hK
    have k1 := hK (X + 19) (by omega) (by omega) (by omega) (by omega)
    have k2 := hK 2209 (by decide) (by decide) (by decide) (by decide)
    have k3 := hK 2243 (by decide) (by decide) (by decide) (by decide)
    have k4 := hK 2244 (by decide) (by decide) (by decide) (by decide)
    have us : up K 2243 v (I 2243 v) = K := by rw [← k3]; exact up_self K 2243 v
    unfold lst1 grt1
    by_cases c : I 2243 v < 0 ∨ n < I 2243 v
    · by_cases c3 : I 2244 v < n
      · simp (disch := (first | assumption | omega | (simp only [up_app, Nat.reduceEqDiff, false_and, and_false, true_and, and_true, if_true, if_false, Nat.add_left_cancel_iff, Nat.add_right_cancel_iff, Nat.add_eq_left, Nat.left_eq_add, hX, k1, hz, tn0, tn1, tn2, tn3, tn4, tn5, tn6, tn7, tn8, tn9]; omega))) only [b405_91, m405_112, b405_121, b405_132, b405_140, b405_156, m503_0, b503_5, b503_9, b503_10, hX, k1, k2, k3, k4, hz, hn, up_app, Nat.reduceEqDiff, false_and, and_false, true_and, and_true, if_true, if_false, Nat.add_left_cancel_iff, Nat.add_right_cancel_iff, Nat.add_eq_left, Nat.left_eq_add, vWC_n, vWC_s, vWC_x, if01a, if01b, if_pos, if_neg, tn0, tn1, tn2, tn3, tn4, tn5, tn6, tn7, tn8, tn9, w32_id, w64_id, Nat.reduceAdd, reduceIte, Int.reduceLT, Int.reduceLE, Int.reduceEq, Int.reduceNe, Int.reduceAdd, Int.reduceSub, Int.reduceMul, Int.reduceNeg, Int.reduceToNat, ne_eq, not_true_eq_false, not_false_eq_true, true_and, and_true, false_and, and_false, true_or, or_true, false_or, or_false, if_true, if_false, and_self, or_self, ite_self]
      · simp (disch := (first | assumption | omega | (simp only [up_app, Nat.reduceEqDiff, false_and, and_false, true_and, and_true, if_true, if_false, Nat.add_left_cancel_iff, Nat.add_right_cancel_iff, Nat.add_eq_left, Nat.left_eq_add, hX, k1, hz, tn0, tn1, tn2, tn3, tn4, tn5, tn6, tn7, tn8, tn9]; omega))) only [b405_91, m405_112, b405_121, b405_132, b405_140, b405_156, m503_0, b503_5, b503_9, b503_10, hX, k1, k2, k3, k4, hz, hn, up_app, Nat.reduceEqDiff, false_and, and_false, true_and, and_true, if_true, if_false, Nat.add_left_cancel_iff, Nat.add_right_cancel_iff, Nat.add_eq_left, Nat.left_eq_add, vWC_n, vWC_s, vWC_x, if01a, if01b, if_pos, if_neg, tn0, tn1, tn2, tn3, tn4, tn5, tn6, tn7, tn8, tn9, w32_id, w64_id, Nat.reduceAdd, reduceIte, Int.reduceLT, Int.reduceLE, Int.reduceEq, Int.reduceNe, Int.reduceAdd, Int.reduceSub, Int.reduceMul, Int.reduceNeg, Int.reduceToNat, ne_eq, not_true_eq_false, not_false_eq_true, true_and, and_true, false_and, and_false, true_or, or_true, false_or, or_false, if_true, if_false, and_self, or_self, ite_self]
    · by_cases c3 : I 2244 v < n
      · simp (disch := (first | assumption | omega | (simp only [up_app, Nat.reduceEqDiff, false_and, and_false, true_and, and_true, if_true, if_false, Nat.add_left_cancel_iff, Nat.add_right_cancel_iff, Nat.add_eq_left, Nat.left_eq_add, hX, k1, hz, tn0, tn1, tn2, tn3, tn4, tn5, tn6, tn7, tn8, tn9]; omega))) only [b405_91, m405_112, b405_121, b405_132, b405_140, b405_156, m503_0, b503_5, b503_9, b503_10, hX, k1, k2, k3, k4, hz, hn, us, up_app, Nat.reduceEqDiff, false_and, and_false, true_and, and_true, if_true, if_false, Nat.add_left_cancel_iff, Nat.add_right_cancel_iff, Nat.add_eq_left, Nat.left_eq_add, vWC_n, vWC_s, vWC_x, if01a, if01b, if_pos, if_neg, tn0, tn1, tn2, tn3, tn4, tn5, tn6, tn7, tn8, tn9, w32_id, w64_id, Nat.reduceAdd, reduceIte, Int.reduceLT, Int.reduceLE, Int.reduceEq, Int.reduceNe, Int.reduceAdd, Int.reduceSub, Int.reduceMul, Int.reduceNeg, Int.reduceToNat, ne_eq, not_true_eq_false, not_false_eq_true, true_and, and_true, false_and, and_false, true_or, or_true, false_or, or_false, if_true, if_false, and_self, or_self, ite_self]
      · simp (disch := (first | assumption | omega | (simp only [up_app, Nat.reduceEqDiff, false_and, and_false, true_and, and_true, if_true, if_false, Nat.add_left_cancel_iff, Nat.add_right_cancel_iff, Nat.add_eq_left, Nat.left_eq_add, hX, k1, hz, tn0, tn1, tn2, tn3, tn4, tn5, tn6, tn7, tn8, tn9]; omega))) only [b405_91, m405_112, b405_121, b405_132, b405_140, b405_156, m503_0, b503_5, b503_9, b503_10, hX, k1, k2, k3, k4, hz, hn, us, up_app, Nat.reduceEqDiff, false_and, and_false, true_and, and_true, if_true, if_false, Nat.add_left_cancel_iff, Nat.add_right_cancel_iff, Nat.add_eq_left, Nat.left_eq_add, vWC_n, vWC_s, vWC_x, if01a, if01b, if_pos, if_neg, tn0, tn1, tn2, tn3, tn4, tn5, tn6, tn7, tn8, tn9, w32_id, w64_id, Nat.reduceAdd, reduceIte, Int.reduceLT, Int.reduceLE, Int.reduceEq, Int.reduceNe, Int.reduceAdd, Int.reduceSub, Int.reduceMul, Int.reduceNeg, Int.reduceToNat, ne_eq, not_true_eq_false, not_false_eq_true, true_and, and_true, false_and, and_false, true_or, or_true, false_or, or_false, if_true, if_false, and_self, or_self, ite_self]
  have fK : ∀ (h : Nat), h < 4 → ∀ c, c ≠ 2245 → c ≠ 2246 → c ≠ 2247 → c ≠ 2248 → up I (2245 + h) v (I (2245 + h) v + 1) c = I c := fun h hh c a1 a2 a3 a4 => up_row _ (by omega) _ _
  unfold leT hw
  by_cases c1 : so = 3
  · have t := tail _ (fK 3 (by decide))
    have l1 := lst1
    simp only [c1, if_true]
    simp (disch := (first | assumption | omega | (simp only [up_app, Nat.reduceEqDiff, false_and, and_false, true_and, and_true, if_true, if_false, Nat.add_left_cancel_iff, Nat.add_right_cancel_iff, Nat.add_eq_left, Nat.left_eq_add, hX, hs.1, tn0, tn1, tn2, tn3, tn4, tn5, tn6, tn7, tn8, tn9]; omega))) only [b405_0, b405_14, hX, hs.1, vWC_n, vWC_s, vWC_x, if01a, if01b, if_pos, if_neg, tn0, tn1, tn2, tn3, tn4, tn5, tn6, tn7, tn8, tn9, w32_id, w64_id, Nat.reduceAdd, reduceIte, Int.reduceLT, Int.reduceLE, Int.reduceEq, Int.reduceNe, Int.reduceAdd, Int.reduceSub, Int.reduceMul, Int.reduceNeg, Int.reduceToNat, ne_eq, not_true_eq_false, not_false_eq_true, true_and, and_true, false_and, and_false, true_or, or_true, false_or, or_false, if_true, if_false, and_self, or_self, ite_self]
    rw [t]
  · by_cases c2 : ku = 16
    · have t := tail _ (fK 1 (by decide))
      simp only [c1, c2, if_true, if_false]
      simp (disch := (first | assumption | omega | (simp only [up_app, Nat.reduceEqDiff, false_and, and_false, true_and, and_true, if_true, if_false, Nat.add_left_cancel_iff, Nat.add_right_cancel_iff, Nat.add_eq_left, Nat.left_eq_add, hX, hs.1, hk.1, tn0, tn1, tn2, tn3, tn4, tn5, tn6, tn7, tn8, tn9]; omega))) only [b405_0, b405_27, b405_41, hX, hs.1, hk.1, vWC_n, vWC_s, vWC_x, if01a, if01b, if_pos, if_neg, tn0, tn1, tn2, tn3, tn4, tn5, tn6, tn7, tn8, tn9, w32_id, w64_id, Nat.reduceAdd, reduceIte, Int.reduceLT, Int.reduceLE, Int.reduceEq, Int.reduceNe, Int.reduceAdd, Int.reduceSub, Int.reduceMul, Int.reduceNeg, Int.reduceToNat, ne_eq, not_true_eq_false, not_false_eq_true, true_and, and_true, false_and, and_false, true_or, or_true, false_or, or_false, if_true, if_false, and_self, or_self, ite_self]
      rw [t]
    · by_cases c3 : ku = 9
      · have t := tail _ (fK 2 (by decide))
        have c4 : ¬ ((9 : Int) = 16) := by decide
        simp only [c1, c3, c4, if_true, if_false]
        simp (disch := (first | assumption | omega | (simp only [up_app, Nat.reduceEqDiff, false_and, and_false, true_and, and_true, if_true, if_false, Nat.add_left_cancel_iff, Nat.add_right_cancel_iff, Nat.add_eq_left, Nat.left_eq_add, hX, hs.1, hk.1, tn0, tn1, tn2, tn3, tn4, tn5, tn6, tn7, tn8, tn9]; omega))) only [b405_0, b405_27, b405_54, b405_68, hX, hs.1, hk.1, vWC_n, vWC_s, vWC_x, if01a, if01b, if_pos, if_neg, tn0, tn1, tn2, tn3, tn4, tn5, tn6, tn7, tn8, tn9, w32_id, w64_id, Nat.reduceAdd, reduceIte, Int.reduceLT, Int.reduceLE, Int.reduceEq, Int.reduceNe, Int.reduceAdd, Int.reduceSub, Int.reduceMul, Int.reduceNeg, Int.reduceToNat, ne_eq, not_true_eq_false, not_false_eq_true, true_and, and_true, false_and, and_false, true_or, or_true, false_or, or_false, if_true, if_false, and_self, or_self, ite_self]
        rw [t]
      · have t := tail _ (fK 0 (by decide))
        simp only [c1, c2, c3, if_false]
        simp (disch := (first | assumption | omega | (simp only [up_app, Nat.reduceEqDiff, false_and, and_false, true_and, and_true, if_true, if_false, Nat.add_left_cancel_iff, Nat.add_right_cancel_iff, Nat.add_eq_left, Nat.left_eq_add, hX, hs.1, hk.1, tn0, tn1, tn2, tn3, tn4, tn5, tn6, tn7, tn8, tn9]; omega))) only [b405_0, b405_27, b405_54, b405_81, hX, hs.1, hk.1, vWC_n, vWC_s, vWC_x, if01a, if01b, if_pos, if_neg, tn0, tn1, tn2, tn3, tn4, tn5, tn6, tn7, tn8, tn9, w32_id, w64_id, Nat.reduceAdd, reduceIte, Int.reduceLT, Int.reduceLE, Int.reduceEq, Int.reduceNe, Int.reduceAdd, Int.reduceSub, Int.reduceMul, Int.reduceNeg, Int.reduceToNat, ne_eq, not_true_eq_false, not_false_eq_true, true_and, and_true, false_and, and_false, true_or, or_true, false_or, or_false, if_true, if_false, and_self, or_self, ite_self]
        rw [t]
end

/-- what is told of loops, in both houses -/
def loR (I I' : vJ) (Lp : Nat) (nd : Nat → Nat) : Prop := (∀ l, l < Lp → nd l < 700) ∧ (∀ l k, l < Lp → k < Lp → nd l = nd k → l = k) ∧ ∀ l, l < Lp → I 1970 l = I' 2241 (nd l) ∧ I 1971 l = I' 2242 (nd l) ∧ (I 1972 l = I' 2243 (nd l) ∧ -1 ≤ I 1972 l ∧ I 1972 l < 100000000) ∧ (I 1973 l = I' 2244 (nd l) ∧ -1 ≤ I 1973 l ∧ I 1973 l < 100000000) ∧ ∀ h, h < 4 → I (1975 + h) l = I' (2245 + h) (nd l)
theorem lo_leave {I I' : vJ} {Lp l : Nat} {nd : Nat → Nat} {n : Int} {h : Nat} (hR : loR I I' Lp nd) (hl : l < Lp) (hn : 0 ≤ n ∧ n < 100000000) (hh : h < 4) : loR (leC I l n h) (leT I' (nd l) n h) Lp nd := by
  obtain ⟨h1, h2, h3⟩ := hR
  refine ⟨h1, h2, fun k hk => ?_⟩
  obtain ⟨a1, a2, ⟨a3, a4, a5⟩, ⟨a6, a7, a8⟩, a9⟩ := h3 k hk
  have w := h3 l hl
  have q : ∀ g : Nat, g < 4 → leC I l n h (1975 + g) k = if g = h ∧ k = l then I (1975 + h) l + 1 else I (1975 + g) k := by
    intro g hg
    unfold leC
    have z1 : ¬ (1975 + g = 1973) := by omega
    have z2 : ¬ (1975 + g = 1972) := by omega
    simp only [up_app, Nat.reduceEqDiff, false_and, and_false, true_and, and_true, if_true, if_false, Nat.add_left_cancel_iff, Nat.add_right_cancel_iff, Nat.add_eq_left, Nat.left_eq_add, z1, z2]
  have q' : ∀ g : Nat, g < 4 → leT I' (nd l) n h (2245 + g) (nd k) = if g = h ∧ nd k = nd l then I' (2245 + h) (nd l) + 1 else I' (2245 + g) (nd k) := by
    intro g hg
    unfold leT
    have z1 : ¬ (2245 + g = 2243) := by omega
    have z2 : ¬ (2245 + g = 2244) := by omega
    simp only [up_app, Nat.reduceEqDiff, false_and, and_false, true_and, and_true, if_true, if_false, Nat.add_left_cancel_iff, Nat.add_right_cancel_iff, Nat.add_eq_left, Nat.left_eq_add, z1, z2]
  have p1 : ¬ (1970 = 1975 + h) := by omega
  have p2 : ¬ (1971 = 1975 + h) := by omega
  have p3 : ¬ (1972 = 1975 + h) := by omega
  have p4 : ¬ (1973 = 1975 + h) := by omega
  have p5 : ¬ (2241 = 2245 + h) := by omega
  have p6 : ¬ (2242 = 2245 + h) := by omega
  have p7 : ¬ (2243 = 2245 + h) := by omega
  have p8 : ¬ (2244 = 2245 + h) := by omega
  have ln : (nd k = nd l) ↔ k = l := ⟨fun e => h2 k l hk hl e, fun e => by rw [e]⟩
  refine ⟨?_, ?_, ?_, ?_, fun g hg => ?_⟩
  · unfold leC leT; simp only [up_app, Nat.reduceEqDiff, false_and, and_false, true_and, and_true, if_true, if_false, Nat.add_left_cancel_iff, Nat.add_right_cancel_iff, Nat.add_eq_left, Nat.left_eq_add, p1, p5]; exact a1
  · unfold leC leT; simp only [up_app, Nat.reduceEqDiff, false_and, and_false, true_and, and_true, if_true, if_false, Nat.add_left_cancel_iff, Nat.add_right_cancel_iff, Nat.add_eq_left, Nat.left_eq_add, p2, p6]; exact a2
  · unfold leC leT; simp only [up_app, Nat.reduceEqDiff, false_and, and_false, true_and, and_true, if_true, if_false, Nat.add_left_cancel_iff, Nat.add_right_cancel_iff, Nat.add_eq_left, Nat.left_eq_add, p3, p7, ln]
    by_cases z : k = l
    · subst z; simp only [if_true]
      rw [← a3]; unfold lst1; refine ⟨rfl, ?_, ?_⟩ <;> (split <;> omega)
    · simp only [z, if_false]; exact ⟨a3, a4, a5⟩
  · unfold leC leT; simp only [up_app, Nat.reduceEqDiff, false_and, and_false, true_and, and_true, if_true, if_false, Nat.add_left_cancel_iff, Nat.add_right_cancel_iff, Nat.add_eq_left, Nat.left_eq_add, p4, p8, ln]
    by_cases z : k = l
    · subst z; simp only [if_true]
      rw [← a6]; unfold grt1; refine ⟨rfl, ?_, ?_⟩ <;> (split <;> omega)
    · simp only [z, if_false]; exact ⟨a6, a7, a8⟩
  · rw [q g hg, q' g hg]
    simp only [ln]
    by_cases z : g = h ∧ k = l
    · obtain ⟨z1, z2⟩ := z
      subst z1; subst z2
      simp only [and_self, if_true]; rw [a9 g hg]
    · simp only [z, if_false]; exact a9 g hg
