/-! ===== a thread ends: those that wait for it go on ===== -/
def jn (I : vJ) (t u : Nat) : Prop := I 1996 u = 2 ∧ I 1997 u = (t : Int)
/-- of the first i threads those that wait for t go on again -/
def eW (I J : vJ) (t i : Nat) (N : Int) : Prop := fr [1996, 2005, 2004, 2000] [] I J ∧ ∀ u, (u < i ∧ jn I t u → J 1996 u = 0 ∧ J 2005 u = 1 ∧ J 2004 u = N ∧ J 2000 u = I 2000 u + (N - I 1998 u)) ∧ (¬ (u < i ∧ jn I t u) → J 1996 u = I 1996 u ∧ J 2005 u = I 2005 u ∧ J 2004 u = I 2004 u ∧ J 2000 u = I 2000 u)
def eVm (I I' J' : vJ) (t i : Nat) (N : Int) : Prop := fr [2187, 2196, 2195, 2190] [] I' J' ∧ ∀ u, (u < i ∧ jn I t u → J' 2187 u = 0 ∧ J' 2196 u = 1 ∧ J' 2195 u = N ∧ J' 2190 u = I' 2190 u + (N - I' 2189 u)) ∧ (¬ (u < i ∧ jn I t u) → J' 2187 u = I' 2187 u ∧ J' 2196 u = I' 2196 u ∧ J' 2195 u = I' 2195 u ∧ J' 2190 u = I' 2190 u)
theorem eW_same {I J : vJ} {t i : Nat} {N : Int} (h : eW I J t i N) (hn : ¬ jn I t i) : eW I J t (i + 1) N := by
  refine ⟨h.1, fun u => ⟨fun q => (h.2 u).1 ⟨?_, q.2⟩, fun q => (h.2 u).2 (fun z => q ⟨by omega, z.2⟩)⟩⟩
  by_cases z : u = i
  · rw [z] at q; exact absurd q.2 hn
  · omega
theorem eV_same {I I' J : vJ} {t i : Nat} {N : Int} (h : eVm I I' J t i N) (hn : ¬ jn I t i) : eVm I I' J t (i + 1) N := by
  refine ⟨h.1, fun u => ⟨fun q => (h.2 u).1 ⟨?_, q.2⟩, fun q => (h.2 u).2 (fun z => q ⟨by omega, z.2⟩)⟩⟩
  by_cases z : u = i
  · rw [z] at q; exact absurd q.2 hn
  · omega
theorem wkC_fr {L : List Nat} {I J : vJ} (h : fr L [] I J) (h1 : L.any (fun q => Nat.beq q 1996) = true) (h2 : L.any (fun q => Nat.beq q 2005) = true) (h3 : L.any (fun q => Nat.beq q 2004) = true) (h4 : L.any (fun q => Nat.beq q 2000) = true) (u : Nat) : fr L [] I (wkC J u) := fr_upL (fr_upL (fr_upL (fr_upL h h1 _ _) h2 _ _) h3 _ _) h4 _ _
theorem wkT_fr {L : List Nat} {I J : vJ} (h : fr L [] I J) (h1 : L.any (fun q => Nat.beq q 2187) = true) (h2 : L.any (fun q => Nat.beq q 2196) = true) (h3 : L.any (fun q => Nat.beq q 2195) = true) (h4 : L.any (fun q => Nat.beq q 2190) = true) (u : Nat) : fr L [] I (wkT J u) := fr_upL (fr_upL (fr_upL (fr_upL h h1 _ _) h2 _ _) h3 _ _) h4 _ _
theorem eW_one {I J : vJ} {t i N : Nat} (h : eW I J t i N) (hn : jn I t i) (hN : I 1990 3388 = N) : eW I (wkC J i) t (i + 1) N := by
  have n1 : J 1990 3388 = N := by rw [h.1 1990 _ rfl]; exact hN
  have n2 : J 1998 i = I 1998 i := h.1 1998 i rfl
  have n3 : J 2000 i = I 2000 i := ((h.2 i).2 (fun z => by omega)).2.2.2
  refine ⟨wkC_fr h.1 rfl rfl rfl rfl i, fun u => ⟨fun q => ?_, fun q => ?_⟩⟩
  · by_cases z : u = i
    · subst z
      simp only [wkC, up_app, Nat.reduceEqDiff, false_and, and_false, true_and, and_true, if_true, if_false, Nat.add_left_cancel_iff, Nat.add_right_cancel_iff, Nat.add_eq_left, Nat.left_eq_add, n1, n2, n3]
    · have a := (h.2 u).1 ⟨by omega, q.2⟩
      simp only [wkC, up_app, Nat.reduceEqDiff, false_and, and_false, true_and, and_true, if_true, if_false, Nat.add_left_cancel_iff, Nat.add_right_cancel_iff, Nat.add_eq_left, Nat.left_eq_add, z]; exact a
  · have z : ¬ u = i := fun z => q ⟨by omega, z ▸ hn⟩
    have a := (h.2 u).2 (fun w => q ⟨by omega, w.2⟩)
    simp only [wkC, up_app, Nat.reduceEqDiff, false_and, and_false, true_and, and_true, if_true, if_false, Nat.add_left_cancel_iff, Nat.add_right_cancel_iff, Nat.add_eq_left, Nat.left_eq_add, z]; exact a
theorem eV_one {I I' J : vJ} {t i N : Nat} (h : eVm I I' J t i N) (hn : jn I t i) (hN : I' 2075 7729 = N) : eVm I I' (wkT J i) t (i + 1) N := by
  have n1 : J 2075 7729 = N := by rw [h.1 2075 _ rfl]; exact hN
  have n2 : J 2189 i = I' 2189 i := h.1 2189 i rfl
  have n3 : J 2190 i = I' 2190 i := ((h.2 i).2 (fun z => by omega)).2.2.2
  refine ⟨wkT_fr h.1 rfl rfl rfl rfl i, fun u => ⟨fun q => ?_, fun q => ?_⟩⟩
  · by_cases z : u = i
    · subst z
      simp only [wkT, up_app, Nat.reduceEqDiff, false_and, and_false, true_and, and_true, if_true, if_false, Nat.add_left_cancel_iff, Nat.add_right_cancel_iff, Nat.add_eq_left, Nat.left_eq_add, n1, n2, n3]
    · have a := (h.2 u).1 ⟨by omega, q.2⟩
      simp only [wkT, up_app, Nat.reduceEqDiff, false_and, and_false, true_and, and_true, if_true, if_false, Nat.add_left_cancel_iff, Nat.add_right_cancel_iff, Nat.add_eq_left, Nat.left_eq_add, z]; exact a
  · have z : ¬ u = i := fun z => q ⟨by omega, z ▸ hn⟩
    have a := (h.2 u).2 (fun w => q ⟨by omega, w.2⟩)
    simp only [wkT, up_app, Nat.reduceEqDiff, false_and, and_false, true_and, and_true, if_true, if_false, Nat.add_left_cancel_iff, Nat.add_right_cancel_iff, Nat.add_eq_left, Nat.left_eq_add, z]; exact a
section
variable {d d' : Nat} {I I' : vJ} {Y Y' : vY} {Q : vE → vE → Prop}
theorem e_loop {t th N : Nat} {by' how : Int} (hL : vL Y) (hL' : vL Y') (ht : t < 8) (h8 : th ≤ 8) (hth : I 1990 3390 = th) (hth' : I' 2075 7731 = th) (hN : I 1990 3388 = N) (hN' : I' 2075 7729 = N)
    (hT : ∀ u, u < th → I 1996 u = I' 2187 u ∧ (0 ≤ I 1996 u ∧ I 1996 u ≤ 4) ∧ (I 1996 u = 2 → I 1997 u = I' 2188 u) ∧ inI (I 1997 u) ∧ inI (I' 2188 u))
    (hQ : ∀ J J', eW I J t th N → eVm I I' J' t th N → Q (.inl none, (J, Y)) (.inl none, (J', Y'))) :
    ∀ (m i : Nat) (J J' : vJ), i + m = th → eW I J t i N → eVm I I' J' t i N → vW (d + 2) 171 (25, [vr 1990, vi t, vi by', vi i], [], (J, Y)) (fun r => vW (d' + 2) 419 (9, [vr 2075, vi t, vi how, vi i], [], (J', Y')) (fun r' => Q r r')) := by
  intro m
  induction m with
  | zero =>
    intro i J J' hi h1 h2
    have hi : i = th := by omega
    subst hi
    have a1 : J 1990 3390 = i := by rw [h1.1 1990 _ rfl]; exact hth
    have a2 : J' 2075 7731 = i := by rw [h2.1 2075 _ rfl]; exact hth'
    simp (disch := (first | assumption | omega | (simp only [up_app, Nat.reduceEqDiff, false_and, and_false, true_and, and_true, if_true, if_false, Nat.add_left_cancel_iff, Nat.add_right_cancel_iff, Nat.add_eq_left, Nat.left_eq_add, tn0, tn1, tn2, tn3, tn4, tn5, tn6, tn7, tn8, tn9]; omega))) only [b171_25, b171_64, a1, vWC_n, vWC_s, vWC_x, if01a, if01b, if_pos, if_neg, tn0, tn1, tn2, tn3, tn4, tn5, tn6, tn7, tn8, tn9, w32_id, w64_id, Nat.reduceAdd, reduceIte, Int.reduceLT, Int.reduceLE, Int.reduceEq, Int.reduceNe, Int.reduceAdd, Int.reduceSub, Int.reduceMul, Int.reduceNeg, Int.reduceToNat, ne_eq, not_true_eq_false, not_false_eq_true, true_and, and_true, false_and, and_false, true_or, or_true, false_or, or_false, if_true, if_false, and_self, or_self, ite_self]
    simp (disch := (first | assumption | omega | (simp only [up_app, Nat.reduceEqDiff, false_and, and_false, true_and, and_true, if_true, if_false, Nat.add_left_cancel_iff, Nat.add_right_cancel_iff, Nat.add_eq_left, Nat.left_eq_add, tn0, tn1, tn2, tn3, tn4, tn5, tn6, tn7, tn8, tn9]; omega))) only [b419_9, b419_48, a2, vWC_n, vWC_s, vWC_x, if01a, if01b, if_pos, if_neg, tn0, tn1, tn2, tn3, tn4, tn5, tn6, tn7, tn8, tn9, w32_id, w64_id, Nat.reduceAdd, reduceIte, Int.reduceLT, Int.reduceLE, Int.reduceEq, Int.reduceNe, Int.reduceAdd, Int.reduceSub, Int.reduceMul, Int.reduceNeg, Int.reduceToNat, ne_eq, not_true_eq_false, not_false_eq_true, true_and, and_true, false_and, and_false, true_or, or_true, false_or, or_false, if_true, if_false, and_self, or_self, ite_self]
    exact hQ J J' h1 h2
  | succ m ih =>
    intro i J J' hi h1 h2
    have a1 : J 1990 3390 = th := by rw [h1.1 1990 _ rfl]; exact hth
    have a2 : J' 2075 7731 = th := by rw [h2.1 2075 _ rfl]; exact hth'
    have b := hT i (by omega)
    have c1 : J 1996 i = I 1996 i := ((h1.2 i).2 (fun z => by omega)).1
    have c2 : J' 2187 i = I' 2187 i := ((h2.2 i).2 (fun z => by omega)).1
    have c3 : J 1997 i = I 1997 i := h1.1 1997 i rfl
    have c4 : J' 2188 i = I' 2188 i := h2.1 2188 i rfl
    obtain ⟨b1, b2, b3, ⟨b4, b5⟩, b6, b7⟩ := b
    by_cases c : jn I t i
    · have nx := ih (i + 1) (wkC J i) (wkT J' i) (by omega) (eW_one h1 c hN) (eV_one h2 c hN')
      obtain ⟨d1, d2⟩ := c
      have d3 := b3 d1
      rw [b171_25 hL, a1]
      simp (disch := (first | assumption | omega | (simp only [up_app, Nat.reduceEqDiff, false_and, and_false, true_and, and_true, if_true, if_false, Nat.add_left_cancel_iff, Nat.add_right_cancel_iff, Nat.add_eq_left, Nat.left_eq_add, tn0, tn1, tn2, tn3, tn4, tn5, tn6, tn7, tn8, tn9]; omega))) only [b171_33, b171_43, b171_53, c_wakes, b171_58, cst1, vWC_n, vWC_s, vWC_x, if01a, if01b, if_pos, if_neg, tn0, tn1, tn2, tn3, tn4, tn5, tn6, tn7, tn8, tn9, w32_id, w64_id, Nat.reduceAdd, reduceIte, Int.reduceLT, Int.reduceLE, Int.reduceEq, Int.reduceNe, Int.reduceAdd, Int.reduceSub, Int.reduceMul, Int.reduceNeg, Int.reduceToNat, ne_eq, not_true_eq_false, not_false_eq_true, true_and, and_true, false_and, and_false, true_or, or_true, false_or, or_false, if_true, if_false, and_self, or_self, ite_self]
      simp only [b419_9 hL', a2]
      simp (disch := (first | assumption | omega | (simp only [up_app, Nat.reduceEqDiff, false_and, and_false, true_and, and_true, if_true, if_false, Nat.add_left_cancel_iff, Nat.add_right_cancel_iff, Nat.add_eq_left, Nat.left_eq_add, tn0, tn1, tn2, tn3, tn4, tn5, tn6, tn7, tn8, tn9]; omega))) only [b419_17, b419_27, b419_37, t_letGo, b419_42, cst1, vWC_n, vWC_s, vWC_x, if01a, if01b, if_pos, if_neg, tn0, tn1, tn2, tn3, tn4, tn5, tn6, tn7, tn8, tn9, w32_id, w64_id, Nat.reduceAdd, reduceIte, Int.reduceLT, Int.reduceLE, Int.reduceEq, Int.reduceNe, Int.reduceAdd, Int.reduceSub, Int.reduceMul, Int.reduceNeg, Int.reduceToNat, ne_eq, not_true_eq_false, not_false_eq_true, true_and, and_true, false_and, and_false, true_or, or_true, false_or, or_false, if_true, if_false, and_self, or_self, ite_self]
      exact nx
    · have nx := ih (i + 1) J J' (by omega) (eW_same h1 c) (eV_same h2 c)
      by_cases d1 : I 1996 i = 2
      · have d2 : ¬ I 1997 i = (t : Int) := fun z => c ⟨d1, z⟩
        have d3 := b3 d1
        rw [b171_25 hL, a1]
        simp (disch := (first | assumption | omega | (simp only [up_app, Nat.reduceEqDiff, false_and, and_false, true_and, and_true, if_true, if_false, Nat.add_left_cancel_iff, Nat.add_right_cancel_iff, Nat.add_eq_left, Nat.left_eq_add, tn0, tn1, tn2, tn3, tn4, tn5, tn6, tn7, tn8, tn9]; omega))) only [b171_33, b171_43, b171_58, cst1, vWC_n, vWC_s, vWC_x, if01a, if01b, if_pos, if_neg, tn0, tn1, tn2, tn3, tn4, tn5, tn6, tn7, tn8, tn9, w32_id, w64_id, Nat.reduceAdd, reduceIte, Int.reduceLT, Int.reduceLE, Int.reduceEq, Int.reduceNe, Int.reduceAdd, Int.reduceSub, Int.reduceMul, Int.reduceNeg, Int.reduceToNat, ne_eq, not_true_eq_false, not_false_eq_true, true_and, and_true, false_and, and_false, true_or, or_true, false_or, or_false, if_true, if_false, and_self, or_self, ite_self]
        simp only [b419_9 hL', a2]
        simp (disch := (first | assumption | omega | (simp only [up_app, Nat.reduceEqDiff, false_and, and_false, true_and, and_true, if_true, if_false, Nat.add_left_cancel_iff, Nat.add_right_cancel_iff, Nat.add_eq_left, Nat.left_eq_add, tn0, tn1, tn2, tn3, tn4, tn5, tn6, tn7, tn8, tn9]; omega))) only [b419_17, b419_27, b419_42, cst1, vWC_n, vWC_s, vWC_x, if01a, if01b, if_pos, if_neg, tn0, tn1, tn2, tn3, tn4, tn5, tn6, tn7, tn8, tn9, w32_id, w64_id, Nat.reduceAdd, reduceIte, Int.reduceLT, Int.reduceLE, Int.reduceEq, Int.reduceNe, Int.reduceAdd, Int.reduceSub, Int.reduceMul, Int.reduceNeg, Int.reduceToNat, ne_eq, not_true_eq_false, not_false_eq_true, true_and, and_true, false_and, and_false, true_or, or_true, false_or, or_false, if_true, if_false, and_self, or_self, ite_self]
        exact nx
      · rw [b171_25 hL, a1]
        simp (disch := (first | assumption | omega | (simp only [up_app, Nat.reduceEqDiff, false_and, and_false, true_and, and_true, if_true, if_false, Nat.add_left_cancel_iff, Nat.add_right_cancel_iff, Nat.add_eq_left, Nat.left_eq_add, tn0, tn1, tn2, tn3, tn4, tn5, tn6, tn7, tn8, tn9]; omega))) only [b171_33, b171_58, cst1, vWC_n, vWC_s, vWC_x, if01a, if01b, if_pos, if_neg, tn0, tn1, tn2, tn3, tn4, tn5, tn6, tn7, tn8, tn9, w32_id, w64_id, Nat.reduceAdd, reduceIte, Int.reduceLT, Int.reduceLE, Int.reduceEq, Int.reduceNe, Int.reduceAdd, Int.reduceSub, Int.reduceMul, Int.reduceNeg, Int.reduceToNat, ne_eq, not_true_eq_false, not_false_eq_true, true_and, and_true, false_and, and_false, true_or, or_true, false_or, or_false, if_true, if_false, and_self, or_self, ite_self]
        simp only [b419_9 hL', a2]
        simp (disch := (first | assumption | omega | (simp only [up_app, Nat.reduceEqDiff, false_and, and_false, true_and, and_true, if_true, if_false, Nat.add_left_cancel_iff, Nat.add_right_cancel_iff, Nat.add_eq_left, Nat.left_eq_add, tn0, tn1, tn2, tn3, tn4, tn5, tn6, tn7, tn8, tn9]; omega))) only [b419_17, b419_42, cst1, vWC_n, vWC_s, vWC_x, if01a, if01b, if_pos, if_neg, tn0, tn1, tn2, tn3, tn4, tn5, tn6, tn7, tn8, tn9, w32_id, w64_id, Nat.reduceAdd, reduceIte, Int.reduceLT, Int.reduceLE, Int.reduceEq, Int.reduceNe, Int.reduceAdd, Int.reduceSub, Int.reduceMul, Int.reduceNeg, Int.reduceToNat, ne_eq, not_true_eq_false, not_false_eq_true, true_and, and_true, false_and, and_false, true_or, or_true, false_or, or_false, if_true, if_false, and_self, or_self, ite_self]
        exact nx
end
