/-- a thread goes on again -/
def lW (I J I' J' : vJ) (u : Nat) (N : Int) : Prop := (∀ v, J 1996 v = if v = u then 0 else I 1996 v) ∧ (∀ v, J 2005 v = if v = u then 1 else I 2005 v) ∧ (∀ v, J 2004 v = if v = u then N else I 2004 v) ∧ (∀ v, J 2000 v = if v = u then I 2000 u + (N - I 1998 u) else I 2000 v) ∧ (∀ v, J' 2187 v = if v = u then 0 else I' 2187 v) ∧ (∀ v, J' 2196 v = if v = u then 1 else I' 2196 v) ∧ (∀ v, J' 2195 v = if v = u then N else I' 2195 v) ∧ (∀ v, J' 2190 v = if v = u then I' 2190 u + (N - I' 2189 u) else I' 2190 v)
/-- what letting a lock go leaves -/
def lO (I J I' J' : vJ) (l th : Nat) (N : Int) : Prop := fr [2017, 2018, 2019, 2022, 2023, 2024, 2025, 2026, 1996, 2005, 2004, 2000, 2012, 2013] [] I J ∧ fr [2211, 2212, 2213, 2214, 2217, 2218, 2219, 2220, 2221, 2222, 2187, 2196, 2195, 2190] [] I' J' ∧ ((J 1996 = I 1996 ∧ J 2005 = I 2005 ∧ J 2004 = I 2004 ∧ J 2000 = I 2000 ∧ J 2012 = I 2012 ∧ J 2013 = I 2013 ∧ J' 2187 = I' 2187 ∧ J' 2196 = I' 2196 ∧ J' 2195 = I' 2195 ∧ J' 2190 = I' 2190 ∧ (J 2017 l = I 2017 l ∧ J 2018 l = I 2018 l - 1 ∧ I 2018 l ≠ 1 ∨ J 2017 l = -1 ∧ J 2018 l = 0 ∧ I 2018 l = 1)) ∨ ∃ u a k : Nat, u < th ∧ wt I l u ∧ (a : Int) = 40 * u + I 1995 u - 1 ∧ I 2012 a = (k : Int) ∧ lW I J I' J' u N ∧ (∀ x, J 2012 x = if x = a then (k : Int) + 1 else I 2012 x) ∧ (∀ x, J 2013 x = if x = a * 12 + k then (l : Int) else I 2013 x) ∧ J 2017 l = (u : Int) ∧ J 2018 l = 1 ∧ I 2018 l = 1) ∧ ∀ k, k ≠ l → J 2017 k = I 2017 k ∧ J 2018 k = I 2018 k
theorem lQ_same {I I' J J' : vJ} {th : Nat} (h : lQ I I' th) (h1 : J 1996 = I 1996) (h2 : J 1997 = I 1997) (h3 : J 1999 = I 1999) (h4 : J' 2222 = I' 2222) (h5 : J' 2221 = I' 2221) : lQ J J' th := by
  intro l hl
  obtain ⟨q, q1, q2, q3, q4, q5⟩ := h l hl
  unfold wt at *
  exact ⟨q, q1, by rw [h4]; exact q2, by rw [h1, h2, h5]; exact q3, by rw [h3, h5]; exact q4, by rw [h1, h2, h5]; exact q5⟩
theorem tH_same {I I' J J' : vJ} {th : Nat} (h : tH I I' th) (h0 : J 1990 = I 1990) (h0' : J' 2075 = I' 2075) (h1 : J 1996 = I 1996) (h2 : J 1997 = I 1997) (h3 : J 1998 = I 1998) (h4 : J 1999 = I 1999) (h5 : J 2000 = I 2000) (h6 : J 2005 = I 2005) (h7 : J 2004 = I 2004) (g1 : J' 2187 = I' 2187) (g2 : J' 2188 = I' 2188) (g3 : J' 2189 = I' 2189) (g4 : J' 2190 = I' 2190) (g5 : J' 2196 = I' 2196) (g6 : J' 2195 = I' 2195) : tH J J' th := by
  unfold tH at *
  rw [h0, h0', h1, h2, h3, h4, h5, h6, h7, g1, g2, g3, g4, g5, g6]
  exact h
def tkC (I : vJ) (l u a kk : Nat) : vJ := up (up (up (up (up (up (up I 2017 l u) 2018 l 1) 2019 l (I 2019 l + 1)) 2026 l (b32 (· ||| ·) (I 2026 l) (b32 (fun x y => x <<< (y &&& 31)) 1 u))) 2024 l (I 1990 3388)) 2013 (a * 12 + kk) l) 2012 a ((kk : Int) + 1)
def wkC (I : vJ) (u : Nat) : vJ := up (up (up (up I 1996 u 0) 2005 u 1) 2004 u (I 1990 3388)) 2000 u (I 2000 u + (I 1990 3388 - I 1998 u))
def tkT (I : vJ) (l u : Nat) : vJ := up (up (up (up (up I 2211 l u) 2212 l 1) 2214 l (I 2214 l + 1)) 2213 l (I 2075 7729)) 2219 l (b32 (· ||| ·) (I 2219 l) (b32 (fun x y => x <<< (y &&& 31)) 1 u))
def wkT (I : vJ) (u : Nat) : vJ := up (up (up (up I 2187 u 0) 2196 u 1) 2195 u (I 2075 7729)) 2190 u (I 2190 u + (I 2075 7729 - I 2189 u))
theorem tkC_row (I : vJ) (l u a kk : Nat) {c : Nat} (h : c ≠ 2017 ∧ c ≠ 2018 ∧ c ≠ 2019 ∧ c ≠ 2026 ∧ c ≠ 2024 ∧ c ≠ 2013 ∧ c ≠ 2012) : tkC I l u a kk c = I c := by
  unfold tkC; rw [up_row _ h.2.2.2.2.2.2, up_row _ h.2.2.2.2.2.1, up_row _ h.2.2.2.2.1, up_row _ h.2.2.2.1, up_row _ h.2.2.1, up_row _ h.2.1, up_row _ h.1]
theorem wkC_row (I : vJ) (u : Nat) {c : Nat} (h : c ≠ 1996 ∧ c ≠ 2005 ∧ c ≠ 2004 ∧ c ≠ 2000) : wkC I u c = I c := by
  unfold wkC; rw [up_row _ h.2.2.2, up_row _ h.2.2.1, up_row _ h.2.1, up_row _ h.1]
theorem tkT_row (I : vJ) (l u : Nat) {c : Nat} (h : c ≠ 2211 ∧ c ≠ 2212 ∧ c ≠ 2214 ∧ c ≠ 2213 ∧ c ≠ 2219) : tkT I l u c = I c := by
  unfold tkT; rw [up_row _ h.2.2.2.2, up_row _ h.2.2.2.1, up_row _ h.2.2.1, up_row _ h.2.1, up_row _ h.1]
theorem wkT_row (I : vJ) (u : Nat) {c : Nat} (h : c ≠ 2187 ∧ c ≠ 2196 ∧ c ≠ 2195 ∧ c ≠ 2190) : wkT I u c = I c := by
  unfold wkT; rw [up_row _ h.2.2.2, up_row _ h.2.2.1, up_row _ h.2.1, up_row _ h.1]
section
variable {d : Nat} {I : vJ} {Y : vY} {Q : vE → Prop}
theorem c_keeps {u ac kk : Nat} {l : Int} (hL : vL Y) (hu : u < 8) (h1 : I 1995 u = (ac : Int) + 1) (hac : ac < 40) (h2 : I 2012 (40 * u + ac) = kk) (hkk : kk < 12) : vW (d + 1) 167 (0, [vr 1990, vi u, vi l, vu], [], (I, Y)) Q ↔ Q (.inl none, (up (up I 2013 ((40 * u + ac) * 12 + kk) l) 2012 (40 * u + ac) ((kk : Int) + 1), Y)) := by
  have ea2 : (u : Int) * 40 + ((ac : Int) + 1) - 1 = ((40 * u + ac : Nat) : Int) := by omega
  have ea3 : (((40 * u + ac : Nat) : Int) * 12 + (kk : Int)).toNat = (40 * u + ac) * 12 + kk := by omega
  simp (disch := (first | assumption | omega | (simp only [up_app, Nat.reduceEqDiff, false_and, and_false, true_and, and_true, if_true, if_false, Nat.add_left_cancel_iff, Nat.add_right_cancel_iff, Nat.add_eq_left, Nat.left_eq_add, h1, ea2, h2, tn0, tn1, tn2, tn3, tn4, tn5, tn6, tn7, tn8, tn9]; omega))) only [b167_0, b167_5, b163_0, h1, ea2, ea3, h2, up_app, Nat.reduceEqDiff, false_and, and_false, true_and, and_true, if_true, if_false, Nat.add_left_cancel_iff, Nat.add_right_cancel_iff, Nat.add_eq_left, Nat.left_eq_add, vWC_n, vWC_s, vWC_x, if01a, if01b, if_pos, if_neg, tn0, tn1, tn2, tn3, tn4, tn5, tn6, tn7, tn8, tn9, w32_id, w64_id, Nat.reduceAdd, reduceIte, Int.reduceLT, Int.reduceLE, Int.reduceEq, Int.reduceNe, Int.reduceAdd, Int.reduceSub, Int.reduceMul, Int.reduceNeg, Int.reduceToNat, ne_eq, not_true_eq_false, not_false_eq_true, true_and, and_true, false_and, and_false, true_or, or_true, false_or, or_false, if_true, if_false, and_self, or_self, ite_self]
theorem c_takes {l u ac kk : Nat} (hL : vL Y) (hl : l < 8) (hu : u < 8) (h1 : I 1995 u = (ac : Int) + 1) (hac : ac < 40) (h2 : I 2012 (40 * u + ac) = kk) (hkk : kk < 12) : vW (d + 2) 166 (0, [vr 1990, vi l, vi u], [], (I, Y)) Q ↔ Q (.inl none, (tkC I l u (40 * u + ac) kk, Y)) := by
  simp (disch := (first | assumption | omega | (simp only [up_app, Nat.reduceEqDiff, false_and, and_false, true_and, and_true, if_true, if_false, Nat.add_left_cancel_iff, Nat.add_right_cancel_iff, Nat.add_eq_left, Nat.left_eq_add, tn0, tn1, tn2, tn3, tn4, tn5, tn6, tn7, tn8, tn9]; omega))) only [b166_0, vWC_n, vWC_s, vWC_x, if01a, if01b, if_pos, if_neg, tn0, tn1, tn2, tn3, tn4, tn5, tn6, tn7, tn8, tn9, w32_id, w64_id, Nat.reduceAdd, reduceIte, Int.reduceLT, Int.reduceLE, Int.reduceEq, Int.reduceNe, Int.reduceAdd, Int.reduceSub, Int.reduceMul, Int.reduceNeg, Int.reduceToNat, ne_eq, not_true_eq_false, not_false_eq_true, true_and, and_true, false_and, and_false, true_or, or_true, false_or, or_false, if_true, if_false, and_self, or_self, ite_self]
  rw [c_keeps (ac := ac) (kk := kk) hL hu (by simp only [up_app, Nat.reduceEqDiff, false_and, and_false, true_and, and_true, if_true, if_false, Nat.add_left_cancel_iff, Nat.add_right_cancel_iff, Nat.add_eq_left, Nat.left_eq_add]; exact h1) hac (by simp only [up_app, Nat.reduceEqDiff, false_and, and_false, true_and, and_true, if_true, if_false, Nat.add_left_cancel_iff, Nat.add_right_cancel_iff, Nat.add_eq_left, Nat.left_eq_add]; exact h2) hkk]
  simp only [vWC_n, Nat.reduceAdd, b166_52]
  rfl
theorem c_wakes {u : Nat} (hL : vL Y) (hu : u < 8) : vW d 168 (0, [vr 1990, vi u], [], (I, Y)) Q ↔ Q (.inl none, (wkC I u, Y)) := by
  simp (disch := (first | assumption | omega | (simp only [up_app, Nat.reduceEqDiff, false_and, and_false, true_and, and_true, if_true, if_false, Nat.add_left_cancel_iff, Nat.add_right_cancel_iff, Nat.add_eq_left, Nat.left_eq_add, tn0, tn1, tn2, tn3, tn4, tn5, tn6, tn7, tn8, tn9]; omega))) only [b168_0, vWC_n, vWC_s, vWC_x, if01a, if01b, if_pos, if_neg, tn0, tn1, tn2, tn3, tn4, tn5, tn6, tn7, tn8, tn9, w32_id, w64_id, Nat.reduceAdd, reduceIte, Int.reduceLT, Int.reduceLE, Int.reduceEq, Int.reduceNe, Int.reduceAdd, Int.reduceSub, Int.reduceMul, Int.reduceNeg, Int.reduceToNat, ne_eq, not_true_eq_false, not_false_eq_true, true_and, and_true, false_and, and_false, true_or, or_true, false_or, or_false, if_true, if_false, and_self, or_self, ite_self]
  rfl
theorem t_has {l u : Nat} (hL : vL Y) (hl : l < 8) : vW d 441 (0, [vr 2075, vi l, vi u], [], (I, Y)) Q ↔ Q (.inl none, (tkT I l u, Y)) := by
  simp (disch := (first | assumption | omega | (simp only [up_app, Nat.reduceEqDiff, false_and, and_false, true_and, and_true, if_true, if_false, Nat.add_left_cancel_iff, Nat.add_right_cancel_iff, Nat.add_eq_left, Nat.left_eq_add, tn0, tn1, tn2, tn3, tn4, tn5, tn6, tn7, tn8, tn9]; omega))) only [b441_0, vWC_n, vWC_s, vWC_x, if01a, if01b, if_pos, if_neg, tn0, tn1, tn2, tn3, tn4, tn5, tn6, tn7, tn8, tn9, w32_id, w64_id, Nat.reduceAdd, reduceIte, Int.reduceLT, Int.reduceLE, Int.reduceEq, Int.reduceNe, Int.reduceAdd, Int.reduceSub, Int.reduceMul, Int.reduceNeg, Int.reduceToNat, ne_eq, not_true_eq_false, not_false_eq_true, true_and, and_true, false_and, and_false, true_or, or_true, false_or, or_false, if_true, if_false, and_self, or_self, ite_self]
  rfl
theorem t_letGo {u : Nat} (hL : vL Y) (hu : u < 8) : vW d 420 (0, [vr 2075, vi u], [], (I, Y)) Q ↔ Q (.inl none, (wkT I u, Y)) := by
  simp (disch := (first | assumption | omega | (simp only [up_app, Nat.reduceEqDiff, false_and, and_false, true_and, and_true, if_true, if_false, Nat.add_left_cancel_iff, Nat.add_right_cancel_iff, Nat.add_eq_left, Nat.left_eq_add, tn0, tn1, tn2, tn3, tn4, tn5, tn6, tn7, tn8, tn9]; omega))) only [b420_0, vWC_n, vWC_s, vWC_x, if01a, if01b, if_pos, if_neg, tn0, tn1, tn2, tn3, tn4, tn5, tn6, tn7, tn8, tn9, w32_id, w64_id, Nat.reduceAdd, reduceIte, Int.reduceLT, Int.reduceLE, Int.reduceEq, Int.reduceNe, Int.reduceAdd, Int.reduceSub, Int.reduceMul, Int.reduceNeg, Int.reduceToNat, ne_eq, not_true_eq_false, not_false_eq_true, true_and, and_true, false_and, and_false, true_or, or_true, false_or, or_false, if_true, if_false, and_self, or_self, ite_self]
  rfl
end
section
variable {d d' : Nat} {I I' : vJ} {Y Y' : vY} {Q : vE → vE → Prop}
theorem l_lets {l th N : Nat} (hL : vL Y) (hL' : vL Y') (hl : l < 8) (hT : tH I I' th) (hQ0 : lQ I I' th) (hR : lR I I') (hN : I 1990 3388 = N) (hN' : I' 2075 7729 = N) (hpos : 1 ≤ I 2018 l) (hown : I 2017 l ≠ -1)
    (hact : ∀ u, u < th → I 1996 u = 1 → 1 ≤ I 1995 u ∧ I 1995 u ≤ 40 ∧ 0 ≤ I 2012 (40 * u + I 1995 u - 1).toNat ∧ I 2012 (40 * u + I 1995 u - 1).toNat < 12)
    (hQ : ∀ J J', tH J J' th → lQ J J' th → lR J J' → lO I J I' J' l th N → Q (.inl none, (J, Y)) (.inl none, (J', Y'))) :
    vW (d + 4) 165 (0, [vr 1990, vi l, vu, vu], [], (I, Y)) (fun r => vW (d' + 4) 440 (0, [vr 2075, vi l, vu, vu], [], (I', Y')) (fun r' => Q r r')) := by
  obtain ⟨⟨t1, t2, t3⟩, t4⟩ := hT
  have w := hR l hl
  obtain ⟨⟨w1, w2, w3⟩, ⟨w4, w5, w6⟩, w7, w8, w9, w10, w11, w12, w13, w14⟩ := w
  by_cases c : I 2018 l = 1
  · have c' : I' 2212 l = 1 := by omega
    have z1 : (1 : Int) - 1 = 0 := rfl
    simp (disch := (first | assumption | omega | (simp only [up_app, Nat.reduceEqDiff, false_and, and_false, true_and, and_true, if_true, if_false, Nat.add_left_cancel_iff, Nat.add_right_cancel_iff, Nat.add_eq_left, Nat.left_eq_add, t1, tn0, tn1, tn2, tn3, tn4, tn5, tn6, tn7, tn8, tn9]; omega))) only [b165_0, b165_10, b165_20, up_app, Nat.reduceEqDiff, false_and, and_false, true_and, and_true, if_true, if_false, Nat.add_left_cancel_iff, Nat.add_right_cancel_iff, Nat.add_eq_left, Nat.left_eq_add, c, z1, hN, vWC_n, vWC_s, vWC_x, if01a, if01b, if_pos, if_neg, tn0, tn1, tn2, tn3, tn4, tn5, tn6, tn7, tn8, tn9, w32_id, w64_id, Nat.reduceAdd, reduceIte, Int.reduceLT, Int.reduceLE, Int.reduceEq, Int.reduceNe, Int.reduceAdd, Int.reduceSub, Int.reduceMul, Int.reduceNeg, Int.reduceToNat, ne_eq, not_true_eq_false, not_false_eq_true, true_and, and_true, false_and, and_false, true_or, or_true, false_or, or_false, if_true, if_false, and_self, or_self, ite_self]
    have cs : ∀ x y : Int, ∀ k, k ≠ 2018 → k ≠ 2023 → k ≠ 2025 → k ≠ 2017 → up (up (up (up I 2018 l 0) 2023 l x) 2025 l y) 2017 l (-1) k = I k := fun x y k a b e f => by rw [up_row _ f, up_row _ e, up_row _ b, up_row _ a]
    refine l_min (th := th) hL hl (by rw [cs _ _ 1990 (by decide) (by decide) (by decide) (by decide)]; exact t1) t3 ?_ ?_ th 0 (-1) (by omega) (Or.inl ⟨rfl, fun v hv => by omega⟩)
    · intro v hv
      have q := t4 v hv
      rw [cs _ _ 1996 (by decide) (by decide) (by decide) (by decide), cs _ _ 1997 (by decide) (by decide) (by decide) (by decide), cs _ _ 1999 (by decide) (by decide) (by decide) (by decide)]
      exact ⟨q.1.2, ⟨q.2.2.2.2.2.2.2.1, q.2.2.2.2.2.2.2.2.2⟩, q.2.2.1⟩
    · intro u hu x
      unfold mn wt at hu
      rw [cs _ _ 1996 (by decide) (by decide) (by decide) (by decide), cs _ _ 1997 (by decide) (by decide) (by decide) (by decide), cs _ _ 1999 (by decide) (by decide) (by decide) (by decide)] at hu
      obtain ⟨q, q1, q2, q3, q4, q5⟩ := hQ0 l hl
      rcases hu with ⟨hu, hno⟩ | ⟨u, rfl, hu1, hu2, hu3⟩
      · subst hu
        have q0 : q = 0 := by
          apply Classical.byContradiction
          intro z
          obtain ⟨v, v1, v2, v3⟩ := q3 0 (by omega)
          exact hno v v1 v3
        subst q0
        simp (disch := (first | assumption | omega | (simp only [up_app, Nat.reduceEqDiff, false_and, and_false, true_and, and_true, if_true, if_false, Nat.add_left_cancel_iff, Nat.add_right_cancel_iff, Nat.add_eq_left, Nat.left_eq_add, tn0, tn1, tn2, tn3, tn4, tn5, tn6, tn7, tn8, tn9]; omega))) only [b165_117, b165_122, vWC_n, vWC_s, vWC_x, if01a, if01b, if_pos, if_neg, tn0, tn1, tn2, tn3, tn4, tn5, tn6, tn7, tn8, tn9, w32_id, w64_id, Nat.reduceAdd, reduceIte, Int.reduceLT, Int.reduceLE, Int.reduceEq, Int.reduceNe, Int.reduceAdd, Int.reduceSub, Int.reduceMul, Int.reduceNeg, Int.reduceToNat, ne_eq, not_true_eq_false, not_false_eq_true, true_and, and_true, false_and, and_false, true_or, or_true, false_or, or_false, if_true, if_false, and_self, or_self, ite_self]
        simp (disch := (first | assumption | omega | (simp only [up_app, Nat.reduceEqDiff, false_and, and_false, true_and, and_true, if_true, if_false, Nat.add_left_cancel_iff, Nat.add_right_cancel_iff, Nat.add_eq_left, Nat.left_eq_add, q2, tn0, tn1, tn2, tn3, tn4, tn5, tn6, tn7, tn8, tn9]; omega))) only [b440_0, b440_10, b440_19, b440_20, b440_57, b440_66, up_app, Nat.reduceEqDiff, false_and, and_false, true_and, and_true, if_true, if_false, Nat.add_left_cancel_iff, Nat.add_right_cancel_iff, Nat.add_eq_left, Nat.left_eq_add, c', z1, hN', q2, vWC_n, vWC_s, vWC_x, if01a, if01b, if_pos, if_neg, tn0, tn1, tn2, tn3, tn4, tn5, tn6, tn7, tn8, tn9, w32_id, w64_id, Nat.reduceAdd, reduceIte, Int.reduceLT, Int.reduceLE, Int.reduceEq, Int.reduceNe, Int.reduceAdd, Int.reduceSub, Int.reduceMul, Int.reduceNeg, Int.reduceToNat, ne_eq, not_true_eq_false, not_false_eq_true, true_and, and_true, false_and, and_false, true_or, or_true, false_or, or_false, if_true, if_false, and_self, or_self, ite_self]
        have ct : ∀ x y : Int, ∀ k, k ≠ 2212 → k ≠ 2218 → k ≠ 2220 → k ≠ 2211 → up (up (up (up I' 2212 l 0) 2218 l x) 2220 l y) 2211 l (-1) k = I' k := fun x y k a b e f => by rw [up_row _ f, up_row _ e, up_row _ b, up_row _ a]
        refine hQ _ _ (tH_same ⟨⟨t1, t2, t3⟩, t4⟩ (cs _ _ 1990 (by decide) (by decide) (by decide) (by decide)) (ct _ _ 2075 (by decide) (by decide) (by decide) (by decide)) (cs _ _ 1996 (by decide) (by decide) (by decide) (by decide)) (cs _ _ 1997 (by decide) (by decide) (by decide) (by decide)) (cs _ _ 1998 (by decide) (by decide) (by decide) (by decide)) (cs _ _ 1999 (by decide) (by decide) (by decide) (by decide)) (cs _ _ 2000 (by decide) (by decide) (by decide) (by decide)) (cs _ _ 2005 (by decide) (by decide) (by decide) (by decide)) (cs _ _ 2004 (by decide) (by decide) (by decide) (by decide)) (ct _ _ 2187 (by decide) (by decide) (by decide) (by decide)) (ct _ _ 2188 (by decide) (by decide) (by decide) (by decide)) (ct _ _ 2189 (by decide) (by decide) (by decide) (by decide)) (ct _ _ 2190 (by decide) (by decide) (by decide) (by decide)) (ct _ _ 2196 (by decide) (by decide) (by decide) (by decide)) (ct _ _ 2195 (by decide) (by decide) (by decide) (by decide))) (lQ_same hQ0 (cs _ _ 1996 (by decide) (by decide) (by decide) (by decide)) (cs _ _ 1997 (by decide) (by decide) (by decide) (by decide)) (cs _ _ 1999 (by decide) (by decide) (by decide) (by decide)) (ct _ _ 2222 (by decide) (by decide) (by decide) (by decide)) (ct _ _ 2221 (by decide) (by decide) (by decide) (by decide))) ?_ ⟨?_, ?_, Or.inl ⟨(cs _ _ 1996 (by decide) (by decide) (by decide) (by decide)), (cs _ _ 2005 (by decide) (by decide) (by decide) (by decide)), (cs _ _ 2004 (by decide) (by decide) (by decide) (by decide)), (cs _ _ 2000 (by decide) (by decide) (by decide) (by decide)), (cs _ _ 2012 (by decide) (by decide) (by decide) (by decide)), (cs _ _ 2013 (by decide) (by decide) (by decide) (by decide)), (ct _ _ 2187 (by decide) (by decide) (by decide) (by decide)), (ct _ _ 2196 (by decide) (by decide) (by decide) (by decide)), (ct _ _ 2195 (by decide) (by decide) (by decide) (by decide)), (ct _ _ 2190 (by decide) (by decide) (by decide) (by decide)), Or.inr ⟨by simp only [up_app, Nat.reduceEqDiff, false_and, and_false, true_and, and_true, if_true, if_false, Nat.add_left_cancel_iff, Nat.add_right_cancel_iff, Nat.add_eq_left, Nat.left_eq_add], by simp only [up_app, Nat.reduceEqDiff, false_and, and_false, true_and, and_true, if_true, if_false, Nat.add_left_cancel_iff, Nat.add_right_cancel_iff, Nat.add_eq_left, Nat.left_eq_add], c⟩⟩, fun k hk => by simp only [up_app, Nat.reduceEqDiff, false_and, and_false, true_and, and_true, if_true, if_false, Nat.add_left_cancel_iff, Nat.add_right_cancel_iff, Nat.add_eq_left, Nat.left_eq_add, hk]⟩
        · intro k hk
          have w := hR k hk
          simp only [up_app, Nat.reduceEqDiff, false_and, and_false, true_and, and_true, if_true, if_false, Nat.add_left_cancel_iff, Nat.add_right_cancel_iff, Nat.add_eq_left, Nat.left_eq_add]
          by_cases z : k = l
          · subst z; simp only [if_true]
            refine ⟨⟨trivial, by decide, by omega⟩, ⟨trivial, by decide, by decide⟩, w7, w8, w9, w10, by rw [w11, w12 hown], fun z => absurd rfl z, ⟨trivial, by omega, by omega⟩, w14⟩
          · simp only [z, if_false]; exact w
        · exact fr_upL (fr_upL (fr_upL (fr_upL (fr_refl _ _ _) rfl _ _) rfl _ _) rfl _ _) rfl _ _
        · exact fr_upL (fr_upL (fr_upL (fr_upL (fr_refl _ _ _) rfl _ _) rfl _ _) rfl _ _) rfl _ _
      · obtain ⟨k0, k1, k2⟩ := q5 u hu1 hu2
        have qpos : 0 < q := by omega
        obtain ⟨v, v1, v2, v3⟩ := q3 0 qpos
        have k00 : k0 = 0 := by
          apply Classical.byContradiction
          intro z
          have a := q4 0 k0 (by omega) k1
          have b := hu3 v v1 v3
          rw [v2, k2] at a
          simp only [tn0] at a
          omega
        subst k00
        have vu' : v = u := by omega
        subst vu'
        rw [Nat.add_zero] at v2
        have hu4 := t4 v v1
        obtain ⟨b1, b2, b3, b4⟩ := hact v v1 hu2.1
        obtain ⟨ac, hac⟩ : ∃ ac : Nat, I 1995 v = (ac : Int) + 1 := ⟨(I 1995 v - 1).toNat, by omega⟩
        have ea : (40 * (v : Int) + I 1995 v - 1).toNat = 40 * v + ac := by omega
        rw [ea] at b3 b4
        obtain ⟨kk, hkk⟩ : ∃ kk : Nat, I 2012 (40 * v + ac) = kk := ⟨(I 2012 (40 * v + ac)).toNat, by omega⟩
        generalize hK : up (up (up (up I 2018 l 0) 2023 l (I 2023 l + ((N : Int) - I 2024 l))) 2025 l N) 2017 l (-1) = K
        have kr : ∀ k, k ≠ 2018 → k ≠ 2023 → k ≠ 2025 → k ≠ 2017 → K k = I k := fun k a b e f => by rw [← hK]; exact cs _ _ k a b e f
        simp (disch := (first | assumption | omega | (simp only [up_app, Nat.reduceEqDiff, false_and, and_false, true_and, and_true, if_true, if_false, Nat.add_left_cancel_iff, Nat.add_right_cancel_iff, Nat.add_eq_left, Nat.left_eq_add, tn0, tn1, tn2, tn3, tn4, tn5, tn6, tn7, tn8, tn9]; omega))) only [b165_117, b165_123, vWC_n, vWC_s, vWC_x, if01a, if01b, if_pos, if_neg, tn0, tn1, tn2, tn3, tn4, tn5, tn6, tn7, tn8, tn9, w32_id, w64_id, Nat.reduceAdd, reduceIte, Int.reduceLT, Int.reduceLE, Int.reduceEq, Int.reduceNe, Int.reduceAdd, Int.reduceSub, Int.reduceMul, Int.reduceNeg, Int.reduceToNat, ne_eq, not_true_eq_false, not_false_eq_true, true_and, and_true, false_and, and_false, true_or, or_true, false_or, or_false, if_true, if_false, and_self, or_self, ite_self]
        rw [kr 1990 (by decide) (by decide) (by decide) (by decide), hN, kr 1998 (by decide) (by decide) (by decide) (by decide), kr 2022 (by decide) (by decide) (by decide) (by decide)]
        rw [c_takes (ac := ac) (kk := kk) hL hl (by omega) (by rw [up_row _ (by decide), kr 1995 (by decide) (by decide) (by decide) (by decide)]; exact hac) (by omega) (by rw [up_row _ (by decide), kr 2012 (by decide) (by decide) (by decide) (by decide)]; exact hkk) (by omega)]
        simp only [vWC_n, Nat.reduceAdd]
        rw [b165_149 hL, c_wakes hL (by omega)]
        simp only [vWC_n, Nat.reduceAdd, b165_154]
        obtain ⟨q, rfl⟩ : ∃ q' : Nat, q = q' + 1 := ⟨q - 1, by omega⟩
        have q2' : I' 2222 l = (q : Int) + 1 := by omega
        have z2 : (q : Int) + 1 - 1 = q := by omega
        have v2' : I' 2221 (8 * l) = v := v2
        simp (disch := (first | assumption | omega | (simp only [up_app, Nat.reduceEqDiff, false_and, and_false, true_and, and_true, if_true, if_false, Nat.add_left_cancel_iff, Nat.add_right_cancel_iff, Nat.add_eq_left, Nat.left_eq_add, q2', tn0, tn1, tn2, tn3, tn4, tn5, tn6, tn7, tn8, tn9]; omega))) only [b440_0, b440_10, b440_19, b440_20, b440_57, b440_67, up_app, Nat.reduceEqDiff, false_and, and_false, true_and, and_true, if_true, if_false, Nat.add_left_cancel_iff, Nat.add_right_cancel_iff, Nat.add_eq_left, Nat.left_eq_add, c', z1, z2, hN', q2', v2', vWC_n, vWC_s, vWC_x, if01a, if01b, if_pos, if_neg, tn0, tn1, tn2, tn3, tn4, tn5, tn6, tn7, tn8, tn9, w32_id, w64_id, Nat.reduceAdd, reduceIte, Int.reduceLT, Int.reduceLE, Int.reduceEq, Int.reduceNe, Int.reduceAdd, Int.reduceSub, Int.reduceMul, Int.reduceNeg, Int.reduceToNat, ne_eq, not_true_eq_false, not_false_eq_true, true_and, and_true, false_and, and_false, true_or, or_true, false_or, or_false, if_true, if_false, and_self, or_self, ite_self]
        generalize hK' : up (up (up (up (up I' 2212 l 0) 2218 l (I' 2218 l + ((N : Int) - I' 2213 l))) 2220 l N) 2211 l (-1)) 2222 l q = K'
        have kr' : ∀ k, k ≠ 2212 → k ≠ 2218 → k ≠ 2220 → k ≠ 2211 → k ≠ 2222 → K' k = I' k := fun k a b e f g => by rw [← hK', up_row _ g, up_row _ f, up_row _ e, up_row _ b, up_row _ a]
        refine l_shift (I := K') (q := q) hL' hl (by omega) (by rw [← hK']; simp only [up_app, Nat.reduceEqDiff, false_and, and_false, true_and, and_true, if_true, if_false, Nat.add_left_cancel_iff, Nat.add_right_cancel_iff, Nat.add_eq_left, Nat.left_eq_add]) (fun J' x j1 j2 => ?_) q 0 K' (by omega) (fun _ _ => rfl) (fun j => by rw [if_neg (by omega)])
        have jr : ∀ k, k ≠ 2212 → k ≠ 2218 → k ≠ 2220 → k ≠ 2211 → k ≠ 2222 → k ≠ 2221 → J' k = I' k := fun k a b e f g h => by rw [j1 k h]; exact kr' k a b e f g
        rw [b440_129 hL' (by omega) (by omega) (by omega) (by omega)]
        simp only [tn0]
        rw [jr 2075 (by decide) (by decide) (by decide) (by decide) (by decide) (by decide), hN', jr 2189 (by decide) (by decide) (by decide) (by decide) (by decide) (by decide), jr 2217 (by decide) (by decide) (by decide) (by decide) (by decide) (by decide)]
        rw [t_has hL' hl]
        simp only [vWC_n, Nat.reduceAdd]
        rw [b440_155 hL', t_letGo hL' (by omega)]
        simp only [vWC_n, Nat.reduceAdd, b440_160]
        have wv := t4 v v1
        generalize hF : wkC (tkC (up K 2022 l (I 2022 l + ((N : Int) - I 1998 v))) l v (40 * v + ac) kk) v = F
        generalize hF' : wkT (tkT (up J' 2217 l (I' 2217 l + ((N : Int) - I' 2189 v))) l v) v = F'
        have F0 : ∀ c, c ≠ 2017 → c ≠ 2018 → c ≠ 2019 → c ≠ 2022 → c ≠ 2023 → c ≠ 2024 → c ≠ 2025 → c ≠ 2026 → c ≠ 1996 → c ≠ 2005 → c ≠ 2004 → c ≠ 2000 → c ≠ 2012 → c ≠ 2013 → F c = I c := fun c a1 a2 a3 a4 a5 a6 a7 a8 a9 a10 a11 a12 a13 a14 => by
          rw [← hF, wkC_row _ _ ⟨a9, a10, a11, a12⟩, tkC_row _ _ _ _ _ ⟨a1, a2, a3, a8, a6, a14, a13⟩, up_row _ a4]; exact kr c a2 a5 a7 a1
        have G0 : ∀ c, c ≠ 2211 → c ≠ 2212 → c ≠ 2213 → c ≠ 2214 → c ≠ 2217 → c ≠ 2218 → c ≠ 2219 → c ≠ 2220 → c ≠ 2221 → c ≠ 2222 → c ≠ 2187 → c ≠ 2196 → c ≠ 2195 → c ≠ 2190 → F' c = I' c := fun c a1 a2 a3 a4 a5 a6 a7 a8 a9 a10 a11 a12 a13 a14 => by
          rw [← hF', wkT_row _ _ ⟨a11, a12, a13, a14⟩, tkT_row _ _ _ ⟨a1, a2, a4, a3, a7⟩, up_row _ a5]; exact jr c a2 a6 a8 a1 a10 a9
        have kn : ∀ f, K 1990 f = I 1990 f := fun f => by rw [kr 1990 (by decide) (by decide) (by decide) (by decide)]
        have f1 : ∀ x, F 1996 x = if x = v then 0 else I 1996 x := fun x => by rw [← hF]; simp only [wkC, tkC, up_app, Nat.reduceEqDiff, false_and, and_false, true_and, and_true, if_true, if_false, Nat.add_left_cancel_iff, Nat.add_right_cancel_iff, Nat.add_eq_left, Nat.left_eq_add, kr 1996 (by decide) (by decide) (by decide) (by decide)]
        have f2 : ∀ x, F 2005 x = if x = v then 1 else I 2005 x := fun x => by rw [← hF]; simp only [wkC, tkC, up_app, Nat.reduceEqDiff, false_and, and_false, true_and, and_true, if_true, if_false, Nat.add_left_cancel_iff, Nat.add_right_cancel_iff, Nat.add_eq_left, Nat.left_eq_add, kr 2005 (by decide) (by decide) (by decide) (by decide)]
        have f3 : ∀ x, F 2004 x = if x = v then (N : Int) else I 2004 x := fun x => by rw [← hF]; simp only [wkC, tkC, up_app, Nat.reduceEqDiff, false_and, and_false, true_and, and_true, if_true, if_false, Nat.add_left_cancel_iff, Nat.add_right_cancel_iff, Nat.add_eq_left, Nat.left_eq_add, kn, hN, kr 2004 (by decide) (by decide) (by decide) (by decide)]
        have f4 : ∀ x, F 2000 x = if x = v then I 2000 v + (N - I 1998 v) else I 2000 x := fun x => by rw [← hF]; simp only [wkC, tkC, up_app, Nat.reduceEqDiff, false_and, and_false, true_and, and_true, if_true, if_false, Nat.add_left_cancel_iff, Nat.add_right_cancel_iff, Nat.add_eq_left, Nat.left_eq_add, kn, hN, kr 2000 (by decide) (by decide) (by decide) (by decide), kr 1998 (by decide) (by decide) (by decide) (by decide)]
        have f5 : ∀ x, F 2012 x = if x = 40 * v + ac then (kk : Int) + 1 else I 2012 x := fun x => by rw [← hF]; simp only [wkC, tkC, up_app, Nat.reduceEqDiff, false_and, and_false, true_and, and_true, if_true, if_false, Nat.add_left_cancel_iff, Nat.add_right_cancel_iff, Nat.add_eq_left, Nat.left_eq_add, kr 2012 (by decide) (by decide) (by decide) (by decide)]
        have f6 : ∀ x, F 2013 x = if x = (40 * v + ac) * 12 + kk then (l : Int) else I 2013 x := fun x => by rw [← hF]; simp only [wkC, tkC, up_app, Nat.reduceEqDiff, false_and, and_false, true_and, and_true, if_true, if_false, Nat.add_left_cancel_iff, Nat.add_right_cancel_iff, Nat.add_eq_left, Nat.left_eq_add, kr 2013 (by decide) (by decide) (by decide) (by decide)]
        have g1 : ∀ x, F' 2187 x = if x = v then 0 else I' 2187 x := fun x => by rw [← hF']; simp only [wkT, tkT, up_app, Nat.reduceEqDiff, false_and, and_false, true_and, and_true, if_true, if_false, Nat.add_left_cancel_iff, Nat.add_right_cancel_iff, Nat.add_eq_left, Nat.left_eq_add, jr 2187 (by decide) (by decide) (by decide) (by decide) (by decide) (by decide)]
        have g2 : ∀ x, F' 2196 x = if x = v then 1 else I' 2196 x := fun x => by rw [← hF']; simp only [wkT, tkT, up_app, Nat.reduceEqDiff, false_and, and_false, true_and, and_true, if_true, if_false, Nat.add_left_cancel_iff, Nat.add_right_cancel_iff, Nat.add_eq_left, Nat.left_eq_add, jr 2196 (by decide) (by decide) (by decide) (by decide) (by decide) (by decide)]
        have g3 : ∀ x, F' 2195 x = if x = v then (N : Int) else I' 2195 x := fun x => by rw [← hF']; simp only [wkT, tkT, up_app, Nat.reduceEqDiff, false_and, and_false, true_and, and_true, if_true, if_false, Nat.add_left_cancel_iff, Nat.add_right_cancel_iff, Nat.add_eq_left, Nat.left_eq_add, jr 2195 (by decide) (by decide) (by decide) (by decide) (by decide) (by decide), jr 2075 (by decide) (by decide) (by decide) (by decide) (by decide) (by decide), hN']
        have g4 : ∀ x, F' 2190 x = if x = v then I' 2190 v + (N - I' 2189 v) else I' 2190 x := fun x => by rw [← hF']; simp only [wkT, tkT, up_app, Nat.reduceEqDiff, false_and, and_false, true_and, and_true, if_true, if_false, Nat.add_left_cancel_iff, Nat.add_right_cancel_iff, Nat.add_eq_left, Nat.left_eq_add, jr 2190 (by decide) (by decide) (by decide) (by decide) (by decide) (by decide), jr 2189 (by decide) (by decide) (by decide) (by decide) (by decide) (by decide), jr 2075 (by decide) (by decide) (by decide) (by decide) (by decide) (by decide), hN']
        have g5 : ∀ x, F' 2222 x = if x = l then (q : Int) else I' 2222 x := fun x => by rw [← hF', wkT_row _ _ (by decide), tkT_row _ _ _ (by decide), up_row _ (by decide), j1 2222 (by decide), ← hK']; simp only [up_app, Nat.reduceEqDiff, false_and, and_false, true_and, and_true, if_true, if_false, Nat.add_left_cancel_iff, Nat.add_right_cancel_iff, Nat.add_eq_left, Nat.left_eq_add]
        have g6 : ∀ x, F' 2221 x = if 8 * l ≤ x ∧ x < 8 * l + q then I' 2221 (x + 1) else I' 2221 x := fun x => by rw [← hF', wkT_row _ _ (by decide), tkT_row _ _ _ (by decide), up_row _ (by decide), j2, kr' 2221 (by decide) (by decide) (by decide) (by decide) (by decide)]
        refine hQ F F' ?_ ?_ ?_ ⟨?_, ?_, Or.inr ⟨v, 40 * v + ac, kk, v1, hu2, by omega, hkk, ⟨f1, f2, f3, f4, g1, g2, g3, g4⟩, f5, f6, by rw [← hF]; simp only [wkC, tkC, ← hK, up_app, Nat.reduceEqDiff, false_and, and_false, true_and, and_true, if_true, if_false, Nat.add_left_cancel_iff, Nat.add_right_cancel_iff, Nat.add_eq_left, Nat.left_eq_add], by rw [← hF]; simp only [wkC, tkC, ← hK, up_app, Nat.reduceEqDiff, false_and, and_false, true_and, and_true, if_true, if_false, Nat.add_left_cancel_iff, Nat.add_right_cancel_iff, Nat.add_eq_left, Nat.left_eq_add], c⟩, fun k hk => by rw [← hF]; simp only [wkC, tkC, ← hK, up_app, Nat.reduceEqDiff, false_and, and_false, true_and, and_true, if_true, if_false, Nat.add_left_cancel_iff, Nat.add_right_cancel_iff, Nat.add_eq_left, Nat.left_eq_add, hk]⟩
        · refine ⟨⟨by rw [F0 1990 (by decide) (by decide) (by decide) (by decide) (by decide) (by decide) (by decide) (by decide) (by decide) (by decide) (by decide) (by decide) (by decide) (by decide)]; exact t1, by rw [G0 2075 (by decide) (by decide) (by decide) (by decide) (by decide) (by decide) (by decide) (by decide) (by decide) (by decide) (by decide) (by decide) (by decide) (by decide)]; exact t2, t3⟩, fun x hx => ?_⟩
          have q := t4 x hx
          rw [F0 1997 (by decide) (by decide) (by decide) (by decide) (by decide) (by decide) (by decide) (by decide) (by decide) (by decide) (by decide) (by decide) (by decide) (by decide), F0 1998 (by decide) (by decide) (by decide) (by decide) (by decide) (by decide) (by decide) (by decide) (by decide) (by decide) (by decide) (by decide) (by decide) (by decide), F0 1999 (by decide) (by decide) (by decide) (by decide) (by decide) (by decide) (by decide) (by decide) (by decide) (by decide) (by decide) (by decide) (by decide) (by decide), F0 1990 (by decide) (by decide) (by decide) (by decide) (by decide) (by decide) (by decide) (by decide) (by decide) (by decide) (by decide) (by decide) (by decide) (by decide), G0 2188 (by decide) (by decide) (by decide) (by decide) (by decide) (by decide) (by decide) (by decide) (by decide) (by decide) (by decide) (by decide) (by decide) (by decide), G0 2189 (by decide) (by decide) (by decide) (by decide) (by decide) (by decide) (by decide) (by decide) (by decide) (by decide) (by decide) (by decide) (by decide) (by decide), f1, f2, f3, f4, g1, g2, g3, g4]
          by_cases z : x = v
          · subst z
            simp only [if_true]
            have qq := q.2.1 (Or.inl hu2.1)
            exact ⟨⟨trivial, by decide, by decide⟩, fun a => by rcases a with a | a <;> exact absurd a (by decide), q.2.2.1, q.2.2.2.1, by rw [q.2.2.2.2.1, qq.2], ⟨trivial, Or.inr trivial⟩, fun _ => ⟨trivial, by omega, by omega⟩, ⟨q.2.2.2.2.2.2.2.1, ⟨fun a => absurd a (by decide), fun a => absurd a (by decide)⟩, q.2.2.2.2.2.2.2.2.2⟩⟩
          · simp only [z, if_false]; exact q
        · intro k hk
          by_cases zk : k = l
          · subst zk
            refine ⟨q, by omega, by rw [g5, if_pos rfl], fun i hi => ?_, fun i j hij hj => ?_, fun x hx hw => ?_⟩
            · obtain ⟨x, x1, x2, x3⟩ := q3 (i + 1) (by omega)
              refine ⟨x, x1, by rw [g6, if_pos (by omega)]; exact x2, ?_⟩
              have a := q4 0 (i + 1) (by omega) (by omega)
              have ne : x ≠ v := by
                intro e
                rw [Nat.add_zero, v2', x2, e] at a
                exact Int.lt_irrefl _ a
              unfold wt
              rw [f1, if_neg ne, F0 1997 (by decide) (by decide) (by decide) (by decide) (by decide) (by decide) (by decide) (by decide) (by decide) (by decide) (by decide) (by decide) (by decide) (by decide)]; exact x3
            · rw [g6, if_pos (by omega), g6, if_pos (by omega), F0 1999 (by decide) (by decide) (by decide) (by decide) (by decide) (by decide) (by decide) (by decide) (by decide) (by decide) (by decide) (by decide) (by decide) (by decide)]
              exact q4 (i + 1) (j + 1) (by omega) (by omega)
            · unfold wt at hw
              rw [f1, F0 1997 (by decide) (by decide) (by decide) (by decide) (by decide) (by decide) (by decide) (by decide) (by decide) (by decide) (by decide) (by decide) (by decide) (by decide)] at hw
              by_cases e : x = v
              · rw [if_pos e] at hw; exact absurd hw.1 (by decide)
              · rw [if_neg e] at hw
                obtain ⟨i, i1, i2⟩ := q5 x hx hw
                have i0 : i ≠ 0 := by
                  intro z
                  rw [z, Nat.add_zero, v2'] at i2
                  omega
                refine ⟨i - 1, by omega, ?_⟩
                rw [g6, if_pos (by omega), show 8 * k + (i - 1) + 1 = 8 * k + i by omega]; exact i2
          · obtain ⟨p, p1, p2, p3, p4, p5⟩ := hQ0 k hk
            have gk : ∀ i, i < 8 → F' 2221 (8 * k + i) = I' 2221 (8 * k + i) := fun i hi => by rw [g6, if_neg (by omega)]
            refine ⟨p, p1, by rw [g5, if_neg zk]; exact p2, fun i hi => ?_, fun i j hij hj => ?_, fun x hx hw => ?_⟩
            · obtain ⟨x, x1, x2, x3⟩ := p3 i hi
              have ne : x ≠ v := by
                intro e
                have b := x3.2
                rw [e, hu2.2] at b
                omega
              refine ⟨x, x1, by rw [gk i (by omega)]; exact x2, ?_⟩
              unfold wt
              rw [f1, if_neg ne, F0 1997 (by decide) (by decide) (by decide) (by decide) (by decide) (by decide) (by decide) (by decide) (by decide) (by decide) (by decide) (by decide) (by decide) (by decide)]; exact x3
            · rw [gk i (by omega), gk j (by omega), F0 1999 (by decide) (by decide) (by decide) (by decide) (by decide) (by decide) (by decide) (by decide) (by decide) (by decide) (by decide) (by decide) (by decide) (by decide)]; exact p4 i j hij hj
            · unfold wt at hw
              rw [f1, F0 1997 (by decide) (by decide) (by decide) (by decide) (by decide) (by decide) (by decide) (by decide) (by decide) (by decide) (by decide) (by decide) (by decide) (by decide)] at hw
              by_cases e : x = v
              · rw [if_pos e] at hw; exact absurd hw.1 (by decide)
              · rw [if_neg e] at hw
                obtain ⟨i, i1, i2⟩ := p5 x hx hw
                exact ⟨i, i1, by rw [gk i (by omega)]; exact i2⟩
        · intro k hk
          have w := hR k hk
          have e1 : F 2017 k = if k = l then (v : Int) else I 2017 k := by
            rw [← hF]; simp only [wkC, tkC, ← hK, up_app, Nat.reduceEqDiff, false_and, and_false, true_and, and_true, if_true, if_false, Nat.add_left_cancel_iff, Nat.add_right_cancel_iff, Nat.add_eq_left, Nat.left_eq_add]
            by_cases z : k = l
            · simp only [z, if_true]
            · simp only [z, if_false]
          have e2 : F 2018 k = if k = l then 1 else I 2018 k := by
            rw [← hF]; simp only [wkC, tkC, ← hK, up_app, Nat.reduceEqDiff, false_and, and_false, true_and, and_true, if_true, if_false, Nat.add_left_cancel_iff, Nat.add_right_cancel_iff, Nat.add_eq_left, Nat.left_eq_add]
            by_cases z : k = l
            · simp only [z, if_true]
            · simp only [z, if_false]
          have e3 : F 2019 k = if k = l then I 2019 k + 1 else I 2019 k := by
            rw [← hF]; simp only [wkC, tkC, ← hK, up_app, Nat.reduceEqDiff, false_and, and_false, true_and, and_true, if_true, if_false, Nat.add_left_cancel_iff, Nat.add_right_cancel_iff, Nat.add_eq_left, Nat.left_eq_add]
            by_cases z : k = l
            · simp only [z, if_true]
            · simp only [z, if_false]
          have e4 : F 2022 k = if k = l then I 2022 k + (N - I 1998 v) else I 2022 k := by
            rw [← hF]; simp only [wkC, tkC, ← hK, up_app, Nat.reduceEqDiff, false_and, and_false, true_and, and_true, if_true, if_false, Nat.add_left_cancel_iff, Nat.add_right_cancel_iff, Nat.add_eq_left, Nat.left_eq_add]
            by_cases z : k = l
            · simp only [z, if_true]
            · simp only [z, if_false]
          have e5 : F 2023 k = if k = l then I 2023 k + (N - I 2024 k) else I 2023 k := by
            rw [← hF]; simp only [wkC, tkC, ← hK, up_app, Nat.reduceEqDiff, false_and, and_false, true_and, and_true, if_true, if_false, Nat.add_left_cancel_iff, Nat.add_right_cancel_iff, Nat.add_eq_left, Nat.left_eq_add]
            by_cases z : k = l
            · simp only [z, if_true]
            · simp only [z, if_false]
          have e6 : F 2024 k = if k = l then (N : Int) else I 2024 k := by
            rw [← hF]; simp only [wkC, tkC, ← hK, up_app, Nat.reduceEqDiff, false_and, and_false, true_and, and_true, if_true, if_false, Nat.add_left_cancel_iff, Nat.add_right_cancel_iff, Nat.add_eq_left, Nat.left_eq_add, hN]
          have e7 : F 2025 k = if k = l then (N : Int) else I 2025 k := by
            rw [← hF]; simp only [wkC, tkC, ← hK, up_app, Nat.reduceEqDiff, false_and, and_false, true_and, and_true, if_true, if_false, Nat.add_left_cancel_iff, Nat.add_right_cancel_iff, Nat.add_eq_left, Nat.left_eq_add]
          have e8 : F 2026 k = if k = l then b32 (· ||| ·) (I 2026 k) (b32 (fun x y => x <<< (y &&& 31)) 1 v) else I 2026 k := by
            rw [← hF]; simp only [wkC, tkC, ← hK, up_app, Nat.reduceEqDiff, false_and, and_false, true_and, and_true, if_true, if_false, Nat.add_left_cancel_iff, Nat.add_right_cancel_iff, Nat.add_eq_left, Nat.left_eq_add]
            by_cases z : k = l
            · simp only [z, if_true]
            · simp only [z, if_false]
          have jx : ∀ c, c ≠ 2221 → J' c = K' c := j1
          have d1 : F' 2211 k = if k = l then (v : Int) else I' 2211 k := by
            rw [← hF']; simp only [wkT, tkT, up_app, Nat.reduceEqDiff, false_and, and_false, true_and, and_true, if_true, if_false, Nat.add_left_cancel_iff, Nat.add_right_cancel_iff, Nat.add_eq_left, Nat.left_eq_add, jx 2211 (by decide), ← hK']
            by_cases z : k = l
            · simp only [z, if_true]
            · simp only [z, if_false]
          have d2 : F' 2212 k = if k = l then 1 else I' 2212 k := by
            rw [← hF']; simp only [wkT, tkT, up_app, Nat.reduceEqDiff, false_and, and_false, true_and, and_true, if_true, if_false, Nat.add_left_cancel_iff, Nat.add_right_cancel_iff, Nat.add_eq_left, Nat.left_eq_add, jx 2212 (by decide), ← hK']
            by_cases z : k = l
            · simp only [z, if_true]
            · simp only [z, if_false]
          have d3 : F' 2214 k = if k = l then I' 2214 k + 1 else I' 2214 k := by
            rw [← hF']; simp only [wkT, tkT, up_app, Nat.reduceEqDiff, false_and, and_false, true_and, and_true, if_true, if_false, Nat.add_left_cancel_iff, Nat.add_right_cancel_iff, Nat.add_eq_left, Nat.left_eq_add, jx 2214 (by decide), ← hK']
            by_cases z : k = l
            · simp only [z, if_true]
            · simp only [z, if_false]
          have d4 : F' 2217 k = if k = l then I' 2217 k + (N - I' 2189 v) else I' 2217 k := by
            rw [← hF']; simp only [wkT, tkT, up_app, Nat.reduceEqDiff, false_and, and_false, true_and, and_true, if_true, if_false, Nat.add_left_cancel_iff, Nat.add_right_cancel_iff, Nat.add_eq_left, Nat.left_eq_add, jx 2217 (by decide), ← hK']
            by_cases z : k = l
            · simp only [z, if_true]
            · simp only [z, if_false]
          have d5 : F' 2218 k = if k = l then I' 2218 k + (N - I' 2213 k) else I' 2218 k := by
            rw [← hF']; simp only [wkT, tkT, up_app, Nat.reduceEqDiff, false_and, and_false, true_and, and_true, if_true, if_false, Nat.add_left_cancel_iff, Nat.add_right_cancel_iff, Nat.add_eq_left, Nat.left_eq_add, jx 2218 (by decide), ← hK']
            by_cases z : k = l
            · simp only [z, if_true]
            · simp only [z, if_false]
          have d6 : F' 2213 k = if k = l then (N : Int) else I' 2213 k := by
            rw [← hF']; simp only [wkT, tkT, up_app, Nat.reduceEqDiff, false_and, and_false, true_and, and_true, if_true, if_false, Nat.add_left_cancel_iff, Nat.add_right_cancel_iff, Nat.add_eq_left, Nat.left_eq_add, jx 2213 (by decide), jx 2075 (by decide), ← hK', hN']
          have d7 : F' 2220 k = if k = l then (N : Int) else I' 2220 k := by
            rw [← hF']; simp only [wkT, tkT, up_app, Nat.reduceEqDiff, false_and, and_false, true_and, and_true, if_true, if_false, Nat.add_left_cancel_iff, Nat.add_right_cancel_iff, Nat.add_eq_left, Nat.left_eq_add, jx 2220 (by decide), ← hK']
          have d8 : F' 2219 k = if k = l then b32 (· ||| ·) (I' 2219 k) (b32 (fun x y => x <<< (y &&& 31)) 1 v) else I' 2219 k := by
            rw [← hF']; simp only [wkT, tkT, up_app, Nat.reduceEqDiff, false_and, and_false, true_and, and_true, if_true, if_false, Nat.add_left_cancel_iff, Nat.add_right_cancel_iff, Nat.add_eq_left, Nat.left_eq_add, jx 2219 (by decide), ← hK']
            by_cases z : k = l
            · simp only [z, if_true]
            · simp only [z, if_false]
          rw [e1, e2, e3, e4, e5, e6, e7, e8, d1, d2, d3, d4, d5, d6, d7, d8, F0 2020 (by decide) (by decide) (by decide) (by decide) (by decide) (by decide) (by decide) (by decide) (by decide) (by decide) (by decide) (by decide) (by decide) (by decide), F0 2021 (by decide) (by decide) (by decide) (by decide) (by decide) (by decide) (by decide) (by decide) (by decide) (by decide) (by decide) (by decide) (by decide) (by decide), G0 2215 (by decide) (by decide) (by decide) (by decide) (by decide) (by decide) (by decide) (by decide) (by decide) (by decide) (by decide) (by decide) (by decide) (by decide), G0 2216 (by decide) (by decide) (by decide) (by decide) (by decide) (by decide) (by decide) (by decide) (by decide) (by decide) (by decide) (by decide) (by decide) (by decide), F0 1990 (by decide) (by decide) (by decide) (by decide) (by decide) (by decide) (by decide) (by decide) (by decide) (by decide) (by decide) (by decide) (by decide) (by decide)]
          by_cases z : k = l
          · subst z
            simp only [if_true]
            have qq := wv.2.1 (Or.inl hu2.1)
            exact ⟨⟨trivial, by omega, by omega⟩, ⟨trivial, by decide, by decide⟩, by rw [w7], w8, w9, by rw [w10, qq.2], by rw [w11, w12 hown], fun _ => trivial, ⟨trivial, by omega, by omega⟩, by rw [w14]⟩
          · simp only [z, if_false]; exact w
        · intro c f hf
          have g : frok [2017, 2018, 2019, 2022, 2023, 2024, 2025, 2026, 1996, 2005, 2004, 2000, 2012, 2013] [] c f = true := hf
          rw [F0 c (fun e => by subst e; cases g) (fun e => by subst e; cases g) (fun e => by subst e; cases g) (fun e => by subst e; cases g) (fun e => by subst e; cases g) (fun e => by subst e; cases g) (fun e => by subst e; cases g) (fun e => by subst e; cases g) (fun e => by subst e; cases g) (fun e => by subst e; cases g) (fun e => by subst e; cases g) (fun e => by subst e; cases g) (fun e => by subst e; cases g) (fun e => by subst e; cases g)]
        · intro c f hf
          have g : frok [2211, 2212, 2213, 2214, 2217, 2218, 2219, 2220, 2221, 2222, 2187, 2196, 2195, 2190] [] c f = true := hf
          rw [G0 c (fun e => by subst e; cases g) (fun e => by subst e; cases g) (fun e => by subst e; cases g) (fun e => by subst e; cases g) (fun e => by subst e; cases g) (fun e => by subst e; cases g) (fun e => by subst e; cases g) (fun e => by subst e; cases g) (fun e => by subst e; cases g) (fun e => by subst e; cases g) (fun e => by subst e; cases g) (fun e => by subst e; cases g) (fun e => by subst e; cases g) (fun e => by subst e; cases g)]
  · simp (disch := (first | assumption | omega | (simp only [up_app, Nat.reduceEqDiff, false_and, and_false, true_and, and_true, if_true, if_false, Nat.add_left_cancel_iff, Nat.add_right_cancel_iff, Nat.add_eq_left, Nat.left_eq_add, tn0, tn1, tn2, tn3, tn4, tn5, tn6, tn7, tn8, tn9]; omega))) only [b165_0, b165_10, b165_19, up_app, Nat.reduceEqDiff, false_and, and_false, true_and, and_true, if_true, if_false, Nat.add_left_cancel_iff, Nat.add_right_cancel_iff, Nat.add_eq_left, Nat.left_eq_add, vWC_n, vWC_s, vWC_x, if01a, if01b, if_pos, if_neg, tn0, tn1, tn2, tn3, tn4, tn5, tn6, tn7, tn8, tn9, w32_id, w64_id, Nat.reduceAdd, reduceIte, Int.reduceLT, Int.reduceLE, Int.reduceEq, Int.reduceNe, Int.reduceAdd, Int.reduceSub, Int.reduceMul, Int.reduceNeg, Int.reduceToNat, ne_eq, not_true_eq_false, not_false_eq_true, true_and, and_true, false_and, and_false, true_or, or_true, false_or, or_false, if_true, if_false, and_self, or_self, ite_self]
    simp (disch := (first | assumption | omega | (simp only [up_app, Nat.reduceEqDiff, false_and, and_false, true_and, and_true, if_true, if_false, Nat.add_left_cancel_iff, Nat.add_right_cancel_iff, Nat.add_eq_left, Nat.left_eq_add, tn0, tn1, tn2, tn3, tn4, tn5, tn6, tn7, tn8, tn9]; omega))) only [b440_0, b440_10, b440_19, up_app, Nat.reduceEqDiff, false_and, and_false, true_and, and_true, if_true, if_false, Nat.add_left_cancel_iff, Nat.add_right_cancel_iff, Nat.add_eq_left, Nat.left_eq_add, vWC_n, vWC_s, vWC_x, if01a, if01b, if_pos, if_neg, tn0, tn1, tn2, tn3, tn4, tn5, tn6, tn7, tn8, tn9, w32_id, w64_id, Nat.reduceAdd, reduceIte, Int.reduceLT, Int.reduceLE, Int.reduceEq, Int.reduceNe, Int.reduceAdd, Int.reduceSub, Int.reduceMul, Int.reduceNeg, Int.reduceToNat, ne_eq, not_true_eq_false, not_false_eq_true, true_and, and_true, false_and, and_false, true_or, or_true, false_or, or_false, if_true, if_false, and_self, or_self, ite_self]
    have f1 : fr [2017, 2018, 2019, 2022, 2023, 2024, 2025, 2026, 1996, 2005, 2004, 2000, 2012, 2013] [] I (up I 2018 l (I 2018 l - 1)) := fr_upL (fr_refl _ _ _) rfl _ _
    have f2 : fr [2211, 2212, 2213, 2214, 2217, 2218, 2219, 2220, 2221, 2222, 2187, 2196, 2195, 2190] [] I' (up I' 2212 l (I' 2212 l - 1)) := fr_upL (fr_refl _ _ _) rfl _ _
    have u1 : ∀ c, c ≠ 2018 → up I 2018 l (I 2018 l - 1) c = I c := fun c hc => up_row I hc _ _
    have u2 : ∀ c, c ≠ 2212 → up I' 2212 l (I' 2212 l - 1) c = I' c := fun c hc => up_row I' hc _ _
    refine hQ _ _ (tH_same ⟨⟨t1, t2, t3⟩, t4⟩ (u1 _ (by decide)) (u2 _ (by decide)) (u1 _ (by decide)) (u1 _ (by decide)) (u1 _ (by decide)) (u1 _ (by decide)) (u1 _ (by decide)) (u1 _ (by decide)) (u1 _ (by decide)) (u2 _ (by decide)) (u2 _ (by decide)) (u2 _ (by decide)) (u2 _ (by decide)) (u2 _ (by decide)) (u2 _ (by decide))) (lQ_same hQ0 (u1 _ (by decide)) (u1 _ (by decide)) (u1 _ (by decide)) (u2 _ (by decide)) (u2 _ (by decide))) ?_ ⟨f1, f2, Or.inl ⟨u1 _ (by decide), u1 _ (by decide), u1 _ (by decide), u1 _ (by decide), u1 _ (by decide), u1 _ (by decide), u2 _ (by decide), u2 _ (by decide), u2 _ (by decide), u2 _ (by decide), Or.inl ⟨by rw [u1 _ (by decide)], by simp only [up_app, Nat.reduceEqDiff, false_and, and_false, true_and, and_true, if_true, if_false, Nat.add_left_cancel_iff, Nat.add_right_cancel_iff, Nat.add_eq_left, Nat.left_eq_add], c⟩⟩, fun k hk => by simp only [up_app, Nat.reduceEqDiff, false_and, and_false, true_and, and_true, if_true, if_false, Nat.add_left_cancel_iff, Nat.add_right_cancel_iff, Nat.add_eq_left, Nat.left_eq_add, hk]⟩
    intro k hk
    have w := hR k hk
    simp only [up_app, Nat.reduceEqDiff, false_and, and_false, true_and, and_true, if_true, if_false, Nat.add_left_cancel_iff, Nat.add_right_cancel_iff, Nat.add_eq_left, Nat.left_eq_add]
    by_cases z : k = l
    · subst z; simp only [if_true]
      exact ⟨w.1, by omega, w.2.2⟩
    · simp only [z, if_false]; exact w
end
